set_option maxRecDepth 100000
/-! operations, 16: soonest, forecast -/
def sooE (s : Int → Int) (y w : Int) : Nat → Nat → Int
  | 0, _ => -1
  | r + 1, j => if w ≤ tryR s y j (7380 + 1) then (j : Int) else sooE s y w r (j + 1)
def sta (t : Int → Int) (n y : Int) : Int := dStar n (sh 7380 t) (t (7380 + 1)) (t (7380 + 2)) y
def staN (s : Int → Int) (n y : Int) : Nat → Int
  | 0 => 0
  | j + 1 => staN s n y j + sta (tryR s y j) n y
theorem sta_bd {t : Int → Int} {n b y : Int} (h : TI t n b) (hn : 1 ≤ n ∧ n ≤ 12) : 0 ≤ sta t n y ∧ dyK t 7380 y (7380 + 1) + sta t n y ≤ t (7380 + 1) + 192 := by
  obtain ⟨e, rg, p3, p4⟩ := h
  subst e
  have cb := dCame_bd (n := t 7380) (c := sh 7380 t) (by omega)
  have eb := dEat_bd (n := t 7380) (c := sh 7380 t) (b := t (7380 + 1)) (u := t (7380 + 2)) (y := y) (by omega) rg p3.1 p4.1
  have ds : sta t (t 7380) y = min (10 * (dEat (t 7380) (sh 7380 t) (t (7380 + 1)) (t (7380 + 2)) y).2) (t (7380 + 1) + dCame (t 7380) (sh 7380 t)) := rfl
  have db : dyK t 7380 y (7380 + 1) = t (7380 + 1) + dCame (t 7380) (sh 7380 t) - sta t (t 7380) y := by
    unfold dyK
    rw [upA_n (by omega), upA_s]
    rfl
  omega
theorem staN_bd {s : Int → Int} {n b y : Int} (h : TI s n b) (hn : 1 ≤ n ∧ n ≤ 12) : ∀ j : Nat, 0 ≤ staN s n y j ∧ staN s n y j + tryR s y j (7380 + 1) ≤ b + 192 * j
  | 0 => ⟨Int.le_refl _, by show 0 + s (7380 + 1) ≤ _; have := h.2.2.1.2; omega⟩
  | j + 1 => by
    have ih := staN_bd (y := y) h hn j
    have q := sta_bd (y := y) (h.tr (y := y) hn j).1 hn
    have e1 : staN s n y (j + 1) = staN s n y j + sta (tryR s y j) n y := rfl
    have e2 : tryR s y (j + 1) = dyK (tryR s y j) 7380 y := rfl
    rw [e1, e2]
    omega
theorem L_x_soo {own : Int → Int} {sz sz1 : Int} {im im1 : Int → aIm} {ct : Int → Int → Int} {s N t0 : Int → Int} {dd a k A n b R w : Int} {Q : aPost} {d kc ks : Nat} (hd : 5 ≤ d) (hR0 : RT own sz im ct) (HY0 : YR own 0 sz im ct 10 s dd N) (HL0 : LR own sz im ct (ct 10 0) s N) (h0 : TI t0 n b) (hn : 1 ≤ n ∧ n ≤ 12) (hb : b ≤ 50000000) (hq : -1 ≤ s (64 + 198 * k + 3) ∧ s (64 + 198 * k + 3) < s 1) (hy : -100 ≤ laK s k ∧ laK s k ≤ 100) (K1 : R ≠ -1 → ∀ ct1 : Int → Int → Int, (∀ x, x < sz → ct1 x = ct x) → AW (mq Q) md_X0_soonest d kc ks 65 [some (vR 0), some (vI a), some (vI w), some (vR A), some (vI R)] [] (sz1, im1, ct1)) (K0 : R = -1 → ∀ ct1 : Int → Int → Int, (∀ x, x < sz → ct1 x = ct x) → RT own sz1 im1 ct1 → AW (mq Q) md_X0_soonest d kc ks 86 [some (vR 0), some (vI a), some (vI w), some (vR A), some (vI 61)] [] (sz1, im1, ct1)) : ∀ (r j : Nat) (e : Int) (ct1 : Int → Int → Int), j + r = 61 → e = j → sooE t0 (laK s k) w r j = R → XT sz sz1 im im1 ct ct1 A n (s (64 + 198 * k + 3)) (tryR t0 (laK s k) j) → AW (mq Q) md_X0_soonest d kc ks 50 [some (vR 0), some (vI a), some (vI w), some (vR A), some (vI e)] [] (sz1, im1, ct1) := by
  intro r
  induction r with
  | zero =>
    intro j e ct1 h1 he h2 H
    have ej : e = 61 := by omega
    subst ej
    simp only [sooE] at h2
    have hT := (h0.tr (y := laK s k) hn j).1
    have T : TRn own own sz sz1 im im1 ct ct1 := ⟨H.1.1, H.1.2.1, H.1.2.2, fun _ _ _ => rfl⟩
    have hR := RT.tr T hR0
    have HY := HY0.mono H.1.1 H.1.2.1 H.1.2.2 (fun _ _ => rfl)
    have HL := LR.tr T HL0
    have e10 : ct1 10 0 = ct 10 0 := by rw [H.1.2.2 10 HY0.1.2.1]
    refine aw_iload dX0_soonest_50 rfl ?_
    refine aw_bipush dX0_soonest_52 (by decide) ?_
    refine aw_icmpgt (tgt := 86) dX0_soonest_54 (by decide) (fun h54 => ?_) (fun h54 => ?_)
    · exact K0 h2.symm _ H.1.2.2 hR
    · exfalso; omega
  | succ r ih =>
    intro j e ct1 h1 he h2 H
    simp only [sooE] at h2
    have hT := (h0.tr (y := laK s k) hn j).1
    have T : TRn own own sz sz1 im im1 ct ct1 := ⟨H.1.1, H.1.2.1, H.1.2.2, fun _ _ _ => rfl⟩
    have hR := RT.tr T hR0
    have HY := HY0.mono H.1.1 H.1.2.1 H.1.2.2 (fun _ _ => rfl)
    have HL := LR.tr T HL0
    have e10 : ct1 10 0 = ct 10 0 := by rw [H.1.2.2 10 HY0.1.2.1]
    refine aw_iload dX0_soonest_50 rfl ?_
    refine aw_bipush dX0_soonest_52 (by decide) ?_
    refine aw_icmpgt (tgt := 86) dX0_soonest_54 (by decide) (fun h54 => ?_) (fun h54 => ?_)
    · exfalso; omega
    · refine aw_aload_n dX0_soonest_57 rfl ?_
      refine g_X0_264_9 rfl dX0_soonest_58 H.2.2.1.1 ?_
      rw [H.2.2.2.2.1.1]
      refine aw_iload_n dX0_soonest_61 rfl ?_
      refine aw_icmplt (tgt := 68) dX0_soonest_62 (by decide) (fun h62 => ?_) (fun h62 => ?_)
      · refine aw_aload_n dX0_soonest_68 rfl ?_
        refine aw_aload_n dX0_soonest_69 rfl ?_
        refine c_X0_158 rfl dX0_soonest_70 hR.o0 (Nat.le_of_ble_eq_true rfl) (by omega) (C_x_yard2 hR ?_)
        refine aK_i ?_
        refine aw_aload_n dX0_soonest_73 rfl ?_
        refine c_X0_397 rfl dX0_soonest_74 HY.1 (Nat.le_of_ble_eq_true rfl) (by omega) (C_x_laysIn HY.1 H.2.2.1.1 e10 HL H.2.2.2.2.1.2.2 hq.1 hq.2 ?_)
        refine aK_i ?_
        refine c_X0_401 rfl dX0_soonest_77 H.2.2.1.1 (Nat.le_of_ble_eq_true rfl) (by omega) (C_x_tday H hT hy (by omega) (fun ct2 H2 y10 => ?_))
        refine aK_v ?_
        refine aw_iinc4r dX0_soonest_80 (by decide) (by decide) rfl (by omega) ?_
        refine aw_goto (tgt := 50) dX0_soonest_83 (by decide) ?_
        rw [if_neg (by omega)] at h2
        exact ih (j + 1) _ ct2 (by omega) (by omega) h2 H2
      · rw [if_pos (by omega)] at h2
        have ee : e = R := by omega
        rw [ee]
        exact K1 (by omega) _ H.1.2.2
theorem L_m_soo {cm : Int → Int → Int} {t0 : Int → Int} {a n b R w : Int} {Q : aPost} {d kc ks : Nat} (hd : 4 ≤ d) (ha : 0 ≤ a ∧ a < 4) (h0 : TI t0 n b) (ht : ∀ i, i < 7380 → t0 i = cm 1 i) (hn : 1 ≤ n ∧ n ≤ 12) (hb : b ≤ 50000000) (hq : -1 ≤ cm 1 (64 + 198 * a + 3) ∧ cm 1 (64 + 198 * a + 3) < 8) (hy : -100 ≤ laK (cm 1) a ∧ laK (cm 1) a ≤ 100) (K1 : R ≠ -1 → ∀ ct1 : Int → Int → Int, mtr cm ct1 → AW (mq Q) md_X7_soonest d kc ks 51 [some (vR 0), some (vI a), some (vI w), some (vI R)] [] (gM ct1)) (K0 : R = -1 → ∀ ct1 : Int → Int → Int, mtr cm ct1 → AW (mq Q) md_X7_soonest d kc ks 75 [some (vR 0), some (vI a), some (vI w), some (vI 61)] [] (gM ct1)) : ∀ (r j : Nat) (e : Int) (ct1 : Int → Int → Int), j + r = 61 → e = j → sooE t0 (laK (cm 1) a) w r j = R → ct1 1 = tryR t0 (laK (cm 1) a) j → Fok ct1 → dfr cm ct1 → AW (mq Q) md_X7_soonest d kc ks 33 [some (vR 0), some (vI a), some (vI w), some (vI e)] [] (gM ct1) := by
  intro r
  induction r with
  | zero =>
    intro j e ct1 h1 he h2 e1 hF hf
    have ej : e = 61 := by omega
    subst ej
    simp only [sooE] at h2
    have hT := (h0.tr (y := laK (cm 1) a) hn j)
    have hM : mtr cm ct1 := ⟨hF, fun i hi => by rw [e1, hT.2 i hi]; exact ht i hi, hf⟩
    have eL := hM.lay ha hq
    have hq1 : ct1 1 (64 + 198 * a + 3) < 8 ∧ -1 ≤ ct1 1 (64 + 198 * a + 3) := by rw [hM.2.1 _ (by omega)]; omega
    refine aw_iload_n dX7_soonest_33 rfl ?_
    refine aw_bipush dX7_soonest_34 (by decide) ?_
    refine aw_icmpgt (tgt := 75) dX7_soonest_36 (by decide) (fun h36 => ?_) (fun h36 => ?_)
    · exact K0 h2.symm _ hM
    · exfalso; omega
  | succ r ih =>
    intro j e ct1 h1 he h2 e1 hF hf
    simp only [sooE] at h2
    have e71 : ct1 1 7381 = tryR t0 (laK (cm 1) a) j (7380 + 1) := by rw [e1]; rfl
    have hT := (h0.tr (y := laK (cm 1) a) hn j)
    have hM : mtr cm ct1 := ⟨hF, fun i hi => by rw [e1, hT.2 i hi]; exact ht i hi, hf⟩
    have eL := hM.lay ha hq
    have hq1 : ct1 1 (64 + 198 * a + 3) < 8 ∧ -1 ≤ ct1 1 (64 + 198 * a + 3) := by rw [hM.2.1 _ (by omega)]; omega
    refine aw_iload_n dX7_soonest_33 rfl ?_
    refine aw_bipush dX7_soonest_34 (by decide) ?_
    refine aw_icmpgt (tgt := 75) dX7_soonest_36 (by decide) (fun h36 => ?_) (fun h36 => ?_)
    · exfalso; omega
    · refine gm_7 rfl dX7_soonest_39 dX7_soonest_40 rfl ?_
      refine aw_sipush dX7_soonest_43 (by decide) ?_
      refine aw_iaload dX7_soonest_46 m_a1 (by omega) (by omega) ?_
      rw [e71]
      refine aw_iload_n dX7_soonest_47 rfl ?_
      refine aw_icmplt (tgt := 57) dX7_soonest_48 (by decide) (fun h48 => ?_) (fun h48 => ?_)
      · refine aw_aload_n dX7_soonest_57 rfl ?_
        refine aw_sipush dX7_soonest_58 (by decide) ?_
        refine aw_aload_n dX7_soonest_61 rfl ?_
        refine aw_iload_n dX7_soonest_62 rfl ?_
        refine c_X7_267 rfl dX7_soonest_63 m_ob (Nat.le_of_ble_eq_true rfl) (by omega) (C_m_lays (by omega) hq1 ?_)
        refine aK_i ?_
        rw [eL]
        refine c_X7_270 rfl dX7_soonest_66 m_ob (Nat.le_of_ble_eq_true rfl) (by omega) (C_m_tday hF (by rw [e1]; exact hT.1) hn hy (by omega) (fun ct2 hF2 e2 a27 f2 => ?_))
        rw [e1] at a27
        have e3 : ct2 1 = tryR t0 (laK (cm 1) a) (j + 1) := by rw [e2, e1]; rfl
        have hf2 := hf.trans f2
        have hM2 : mtr cm ct2 := ⟨hF2, fun i hi => by rw [e3, (h0.tr (y := laK (cm 1) a) hn (j + 1)).2 i hi]; exact ht i hi, hf2⟩
        refine aK_v ?_
        refine aw_iinc3r dX7_soonest_69 (by decide) (by decide) rfl (by omega) ?_
        refine aw_goto (tgt := 33) dX7_soonest_72 (by decide) ?_
        rw [if_neg (by omega)] at h2
        exact ih (j + 1) _ ct2 (by omega) (by omega) h2 e3 hF2 hf2
      · rw [if_pos (by omega)] at h2
        have ee : e = R := by omega
        rw [ee]
        exact K1 (by omega) _ hM
theorem OP_soonest {sz : Int} {im : Int → aIm} {ct cm : Int → Int → Int} (h : XR (sz, im, ct) cm) {a b : Int} (r0 : -2147483648 ≤ a ∧ a < 2147483648) (r1 : -2147483648 ≤ b ∧ b < 2147483648)  : AMet md_X0_soonest 6 15 227 [vR 0, vI a, vI b] (sz, im, ct) (XQ md_X7_soonest 6 [vR 0, vI a, vI b] cm) := by
  obtain ⟨own, N, hR, HY, HL, HN, HS, HP, HF, HX, hv2, hv3, hv4⟩ := id h
  dsimp only at hR HY HL HS HX hv2 hv3 hv4
  have hp0 := HP.1
  have hp3 := HP.2.1
  have hpq := HP.2.2.2.1.1
  have hps := HP.2.2.2.2.2
  have hlt : ct 10 0 ≠ 0 := fun e => by have q1 := HL.2.2.1.1; rw [e] at q1; have q2 := hR.1.2; omega
  have hPQ := HP.2.2.2.1
  have HL1 := HL.up0 (j := 7) (v := 0) hR.1.2
  refine AMet.go (L := [some (vR 0), some (vI a), some (vI b), none, none]) mok_X0_soonest (Nat.le_of_ble_eq_true rfl) rfl ?_
  refine aw_aload_n dX0_soonest_0 rfl ?_
  refine aw_aload_n dX0_soonest_1 rfl ?_
  refine aw_iload_n dX0_soonest_2 rfl ?_
  refine c_X0_168 rfl dX0_soonest_3 hR.o0 (Nat.le_of_ble_eq_true rfl) (by omega) (C_x_isHive hR HY (fun xh => ?_) (fun xh => ?_))
  · refine aK_i ?_
    refine aw_ifeq (tgt := 25) dX0_soonest_6 (by decide) (fun h => absurd h (by decide)) (fun _ => ?_)
    refine aw_iload_n dX0_soonest_9 rfl ?_
    refine aw_i2l dX0_soonest_10 ?_
    refine aw_lconst0 dX0_soonest_11 ?_
    refine aw_ldc2 (x := 9999) dX0_soonest_12 q1100 (by decide) ?_
    refine c_X0_164 rfl dX0_soonest_15  (Nat.le_of_ble_eq_true rfl) (by omega) (C_x_isIn (fun hi => ?_) (fun hi => ?_))
    · refine aK_i ?_
      refine aw_ifeq (tgt := 25) dX0_soonest_18 (by decide) (fun h => absurd h (by decide)) (fun _ => ?_)
      refine aw_iconst dX0_soonest_21 (by decide) ?_
      refine aw_goto (tgt := 26) dX0_soonest_22 (by decide) ?_
      refine p_X0_73_0 rfl dX0_soonest_26 hR.o0 ?_
      refine aw_aload_n dX0_soonest_29 rfl ?_
      refine g_X0_73_0 rfl dX0_soonest_30 hR.o0 ?_
      repeat (first | rw [aup_s] | rw [aup_n (by omega)])
      refine aw_ifle (tgt := 38) dX0_soonest_33 (by decide) (fun _ => ?_) (fun h => absurd h (by decide))
      obtain ⟨hv, ehv, ⟨g1, g2, ⟨g3, g4, g5, g6, g7⟩, g8, g9, -⟩, nhv0, nhv10, nhv9, nv0, nvhv, nv10, ohv⟩ := (HY.up0 (j := 7) (v := 0) hR.1.2 (by decide)).hv (hR.up0 (j := 7) (v := 0)) (k := a) (by omega) (by omega)
      have gn := g1.2.2.2
      have gh := HP.2.2.1 a (by omega) (by omega)
      have gq := gh.2.2.2.2.1
      have gp := HP.pd.2.1 a (by omega) (by omega)
      refine aw_aload_n dX0_soonest_38 rfl ?_
      refine aw_iload_n dX0_soonest_39 rfl ?_
      refine c_X0_172 rfl dX0_soonest_40 hR.o0 (Nat.le_of_ble_eq_true rfl) (by omega) (C_x_xat2 (a := hv) hR HY (by omega) ehv ?_)
      refine aK_i ?_
      refine c_X0_393a (kc1 := 15) (ks1 := 227) (kc2 := 0) (ks2 := 0) (by decide) (by decide) rfl dX0_soonest_43 g1.1 (Nat.le_of_ble_eq_true rfl) (by omega) (C_x_hcopy g1 g2 (fun im1 ct1 hS1 hC1 z0 z3 z4 z5 z6 z7 zx z1 z2 zf => ?_))
      refine aK_v ?_
      refine aw_astore3 dX0_soonest_46 (by decide) rfl ?_
      refine aw_iconst dX0_soonest_47 (by decide) ?_
      refine aw_istore4 dX0_soonest_48 (by decide) rfl ?_
      have hti := TI.cp (k := a) HP (by omega) (by omega)
      have hqa : -1 ≤ cm 1 (64 + 198 * a + 3) ∧ cm 1 (64 + 198 * a + 3) < cm 1 1 := gq
      have hqb : cm 1 (64 + 198 * a + 3) < 8 := by omega
      have hla : -100 ≤ laK (cm 1) a ∧ laK (cm 1) a ≤ 100 := by
        unfold laK
        split
        · omega
        · have := (HP.2.2.2.1.2.2.1 (cm 1 (64 + 198 * a + 3)) (by omega) (by omega)).1
          omega
      have HXT : XT sz (sz + cm 1 (64 + 198 * a) + 3) im im1 (aup ct 0 7 0) ct1 sz (cm 1 (64 + 198 * a)) (cm 1 (64 + 198 * a + 3)) (tryR (cpR (64 + 198 * a) 7380 198 (cm 1)) (laK (cm 1) a) 0) := by
        refine ⟨⟨by omega, fun x hx => (zx x hx).1, fun x hx => (zx x hx).2⟩, Int.le_refl _, hS1, hC1.cong (fun i i0 i1 => (cp_sh i0 (by omega)).symm), ⟨?_, ?_, ?_⟩, fun f f0 f1 => by rw [z1, zf f f0 f1]; omega⟩
        · rw [z3, g3]; exact (cp_in (by omega) (by omega)).symm
        · rw [z4, g4]; exact (cp_in (by omega) (by omega)).symm
        · rw [z5, g5]
      refine L_x_soo (a := a) (k := a) (w := b) (R := (sooE (cpR (64 + 198 * a) 7380 198 (cm 1)) (laK (cm 1) a) b 61 0)) (by omega) (hR.up0 (j := 7) (v := 0)) (HY.up0 (j := 7) (v := 0) hR.1.2 (by decide)) HL1 hti gh.1 (by omega) hqa hla (fun e9 ct1 hc1 => ?_) (fun e9 ct1 hc1 hR9 => ?_) 61 0 0 ct1 (by omega) (by omega) rfl HXT
      · have hlt0 := hc1
        obtain ⟨ctq, h2, hxs, h7, h8, h9⟩ := h.tried (sz1 := sz + cm 1 (64 + 198 * a) + 3) (by omega) (fun x hx => (zx x hx).1) hc1
        refine aw_iload dX0_soonest_65 rfl ?_
        refine aw_ireturn dX0_soonest_67 rfl ?_
        refine ⟨_, rfl, ?_⟩
        refine AMet.go (L := [some (vR 0), some (vI a), some (vI b), none]) mok_X7_soonest (Nat.le_of_ble_eq_true rfl) rfl ?_
        refine aw_aload_n dX7_soonest_0 rfl ?_
        refine aw_iload_n dX7_soonest_1 rfl ?_
        refine c_X7_274 rfl dX7_soonest_2 m_ob (Nat.le_of_ble_eq_true rfl) (by omega) (C_m_isHive (fun hh => ?_) (fun hh => ?_))
        · first
            | (exfalso; omega)
            | skip
              refine aK_i ?_
              refine aw_ifeq (tgt := 20) dX7_soonest_5 (by decide) (fun h => absurd h (by decide)) (fun _ => ?_)
              refine aw_iload_n dX7_soonest_8 rfl ?_
              refine aw_i2l dX7_soonest_9 ?_
              refine aw_lconst0 dX7_soonest_10 ?_
              refine aw_ldc2 (x := 9999) dX7_soonest_11 q1843 (by decide) ?_
              refine c_X7_306 rfl dX7_soonest_14  (Nat.le_of_ble_eq_true rfl) (by omega) (C_m_isFrom (fun hfr => ?_) (fun hfr => ?_))
              · first
                  | (exfalso; omega)
                  | skip
                    refine aK_i ?_
                    refine aw_ifne (tgt := 26) dX7_soonest_17 (by decide) (fun _ => ?_) (fun h => absurd h (by decide))
                    refine aw_aload_n dX7_soonest_26 rfl ?_
                    refine aw_iload_n dX7_soonest_27 rfl ?_
                    refine c_X7_361 rfl dX7_soonest_28 m_ob (Nat.le_of_ble_eq_true rfl) (by omega) (C_m_tries (by omega) (fun ct2 t1 t2 => ?_))
                    have hF2 : Fok ct2 := by
                      have q := HF
                      unfold Fok FC at q ⊢
                      rw [t2 0 (by decide), t2 9 (by decide)]
                      exact q
                    have hd2 : dfr cm ct2 := ⟨fun b b0 b1 b9 => t2 b b1, fun i _ _ _ _ => by rw [t2 0 (by decide)]⟩
                    refine aK_v ?_
                    refine aw_iconst dX7_soonest_31 (by decide) ?_
                    refine aw_istore3 dX7_soonest_32 (by decide) rfl ?_
                    refine L_m_soo (a := a) (w := b) (R := (sooE (cpR (64 + 198 * a) 7380 198 (cm 1)) (laK (cm 1) a) b 61 0)) (by omega) (by omega) hti (fun i hi => cp_out hi) gh.1 (by omega) ⟨hqa.1, hqb⟩ hla (fun e8 ct3 hM => ?_) (fun e8 ct3 hM => ?_) 61 0 0 ct2 (by omega) (by omega) rfl t1 hF2 hd2
                    · first
                        | exact absurd e9 e8
                        | (refine aw_aload_n dX7_soonest_51 rfl ?_
                           refine aw_iload_n dX7_soonest_52 rfl ?_
                           refine c_X7_76 rfl dX7_soonest_53 m_ob (Nat.le_of_ble_eq_true rfl) (by omega) (C_m_gives ?_)
                           refine aK_i ?_
                           refine aw_ireturn dX7_soonest_56 rfl ?_
                           refine XR.sameE h2 (by omega) ?_ ?_ ?_ ?_ ?_
                           · first
                               | exact hxs
                               | exact hxs.up (by decide)
                           · repeat (first | exact hM.ms | refine mss.up0 ?_ (by decide))
                           · first
                               | (rw [h7, aup_s]; done)
                               | (rw [aup_s, aup_s, hu, if_pos (by omega)]; done)
                               | (rw [aup_s, aup_s, hu]; rfl)
                           · (repeat rw [aup_n (by omega)]); rw [h8, hM.2.2.2 3 (by decide) (by decide) (by decide) (by decide)]
                           · (repeat rw [aup_n (by omega)]); rw [h9, hM.2.2.2 4 (by decide) (by decide) (by decide) (by decide)])
                    · first
                        | exact absurd e8 e9
                        | (refine aw_aload_n dX7_soonest_75 rfl ?_
                           refine aw_bipush dX7_soonest_76 (by decide) ?_
                           refine c_X7_72 rfl dX7_soonest_78 m_ob (Nat.le_of_ble_eq_true rfl) (by omega) (C_m_refuse ?_)
                           refine aK_i ?_
                           refine aw_ireturn dX7_soonest_81 rfl ?_
                           refine XR.sameE h2 (by omega) ?_ ?_ ?_ ?_ ?_
                           · first
                               | exact hxs
                               | exact hxs.up (by decide)
                           · repeat (first | exact hM.ms | refine mss.up0 ?_ (by decide))
                           · first
                               | (rw [h7, aup_s]; done)
                               | (rw [aup_s, aup_s, hu, if_pos (by omega)]; done)
                               | (rw [aup_s, aup_s, hu]; rfl)
                           · (repeat rw [aup_n (by omega)]); rw [h8, hM.2.2.2 3 (by decide) (by decide) (by decide) (by decide)]
                           · (repeat rw [aup_n (by omega)]); rw [h9, hM.2.2.2 4 (by decide) (by decide) (by decide) (by decide)])
              · first
                  | (exfalso; omega)
                  | skip
                    refine aK_i ?_
                    refine aw_ifne (tgt := 26) dX7_soonest_17 (by decide) (fun h => absurd h (by decide)) (fun _ => ?_)
                    refine aw_aload_n dX7_soonest_20 rfl ?_
                    refine aw_iconst dX7_soonest_21 (by decide) ?_
                    refine c_X7_72 rfl dX7_soonest_22 m_ob (Nat.le_of_ble_eq_true rfl) (by omega) (C_m_refuse ?_)
                    refine aK_i ?_
                    refine aw_ireturn dX7_soonest_25 rfl ?_
                    first
                      | (exfalso; omega)
                      | (refine XR.sameE h ?_ ?_ ?_ ?_ ?_ ?_
                         · first
                             | rfl
                             | omega
                         · repeat (first | exact xs.rf | refine xs.up ?_ (by decide))
                         · repeat (first | exact mss.rf | refine mss.up0 ?_ (by decide))
                         · first
                             | (simp [aup, hv2, hv3, hv4]; done)
                             | (simp [aup, hv2, hv3, hv4]; omega)
                         · simp [aup, hv2, hv3, hv4]
                         · simp [aup, hv2, hv3, hv4])
        · first
            | (exfalso; omega)
            | skip
              refine aK_i ?_
              refine aw_ifeq (tgt := 20) dX7_soonest_5 (by decide) (fun _ => ?_) (fun h => absurd h (by decide))
              refine aw_aload_n dX7_soonest_20 rfl ?_
              refine aw_iconst dX7_soonest_21 (by decide) ?_
              refine c_X7_72 rfl dX7_soonest_22 m_ob (Nat.le_of_ble_eq_true rfl) (by omega) (C_m_refuse ?_)
              refine aK_i ?_
              refine aw_ireturn dX7_soonest_25 rfl ?_
              first
                | (exfalso; omega)
                | (refine XR.sameE h ?_ ?_ ?_ ?_ ?_ ?_
                   · first
                       | rfl
                       | omega
                   · repeat (first | exact xs.rf | refine xs.up ?_ (by decide))
                   · repeat (first | exact mss.rf | refine mss.up0 ?_ (by decide))
                   · first
                       | (simp [aup, hv2, hv3, hv4]; done)
                       | (simp [aup, hv2, hv3, hv4]; omega)
                   · simp [aup, hv2, hv3, hv4]
                   · simp [aup, hv2, hv3, hv4])
      · have hlt0 := hc1
        obtain ⟨ctq, h2, hxs, h7, h8, h9⟩ := h.tried (sz1 := sz + cm 1 (64 + 198 * a) + 3) (by omega) (fun x hx => (zx x hx).1) hc1
        refine aw_aload_n dX0_soonest_86 rfl ?_
        refine aw_iconst dX0_soonest_87 (by decide) ?_
        refine c_X0_283 rfl dX0_soonest_88 hR9.o0 (Nat.le_of_ble_eq_true rfl) (by omega) (C_x_answer hR9 (fun u hu => ?_))
        refine aK_i ?_
        refine aw_ireturn dX0_soonest_91 rfl ?_
        refine ⟨_, rfl, ?_⟩
        refine AMet.go (L := [some (vR 0), some (vI a), some (vI b), none]) mok_X7_soonest (Nat.le_of_ble_eq_true rfl) rfl ?_
        refine aw_aload_n dX7_soonest_0 rfl ?_
        refine aw_iload_n dX7_soonest_1 rfl ?_
        refine c_X7_274 rfl dX7_soonest_2 m_ob (Nat.le_of_ble_eq_true rfl) (by omega) (C_m_isHive (fun hh => ?_) (fun hh => ?_))
        · first
            | (exfalso; omega)
            | skip
              refine aK_i ?_
              refine aw_ifeq (tgt := 20) dX7_soonest_5 (by decide) (fun h => absurd h (by decide)) (fun _ => ?_)
              refine aw_iload_n dX7_soonest_8 rfl ?_
              refine aw_i2l dX7_soonest_9 ?_
              refine aw_lconst0 dX7_soonest_10 ?_
              refine aw_ldc2 (x := 9999) dX7_soonest_11 q1843 (by decide) ?_
              refine c_X7_306 rfl dX7_soonest_14  (Nat.le_of_ble_eq_true rfl) (by omega) (C_m_isFrom (fun hfr => ?_) (fun hfr => ?_))
              · first
                  | (exfalso; omega)
                  | skip
                    refine aK_i ?_
                    refine aw_ifne (tgt := 26) dX7_soonest_17 (by decide) (fun _ => ?_) (fun h => absurd h (by decide))
                    refine aw_aload_n dX7_soonest_26 rfl ?_
                    refine aw_iload_n dX7_soonest_27 rfl ?_
                    refine c_X7_361 rfl dX7_soonest_28 m_ob (Nat.le_of_ble_eq_true rfl) (by omega) (C_m_tries (by omega) (fun ct2 t1 t2 => ?_))
                    have hF2 : Fok ct2 := by
                      have q := HF
                      unfold Fok FC at q ⊢
                      rw [t2 0 (by decide), t2 9 (by decide)]
                      exact q
                    have hd2 : dfr cm ct2 := ⟨fun b b0 b1 b9 => t2 b b1, fun i _ _ _ _ => by rw [t2 0 (by decide)]⟩
                    refine aK_v ?_
                    refine aw_iconst dX7_soonest_31 (by decide) ?_
                    refine aw_istore3 dX7_soonest_32 (by decide) rfl ?_
                    refine L_m_soo (a := a) (w := b) (R := (sooE (cpR (64 + 198 * a) 7380 198 (cm 1)) (laK (cm 1) a) b 61 0)) (by omega) (by omega) hti (fun i hi => cp_out hi) gh.1 (by omega) ⟨hqa.1, hqb⟩ hla (fun e8 ct3 hM => ?_) (fun e8 ct3 hM => ?_) 61 0 0 ct2 (by omega) (by omega) rfl t1 hF2 hd2
                    · first
                        | exact absurd e9 e8
                        | (refine aw_aload_n dX7_soonest_51 rfl ?_
                           refine aw_iload_n dX7_soonest_52 rfl ?_
                           refine c_X7_76 rfl dX7_soonest_53 m_ob (Nat.le_of_ble_eq_true rfl) (by omega) (C_m_gives ?_)
                           refine aK_i ?_
                           refine aw_ireturn dX7_soonest_56 rfl ?_
                           refine XR.sameE h2 (by omega) ?_ ?_ ?_ ?_ ?_
                           · first
                               | exact hxs
                               | exact hxs.up (by decide)
                           · repeat (first | exact hM.ms | refine mss.up0 ?_ (by decide))
                           · first
                               | (rw [h7, aup_s]; done)
                               | (rw [aup_s, aup_s, hu, if_pos (by omega)]; done)
                               | (rw [aup_s, aup_s, hu]; rfl)
                           · (repeat rw [aup_n (by omega)]); rw [h8, hM.2.2.2 3 (by decide) (by decide) (by decide) (by decide)]
                           · (repeat rw [aup_n (by omega)]); rw [h9, hM.2.2.2 4 (by decide) (by decide) (by decide) (by decide)])
                    · first
                        | exact absurd e8 e9
                        | (refine aw_aload_n dX7_soonest_75 rfl ?_
                           refine aw_bipush dX7_soonest_76 (by decide) ?_
                           refine c_X7_72 rfl dX7_soonest_78 m_ob (Nat.le_of_ble_eq_true rfl) (by omega) (C_m_refuse ?_)
                           refine aK_i ?_
                           refine aw_ireturn dX7_soonest_81 rfl ?_
                           refine XR.sameE h2 (by omega) ?_ ?_ ?_ ?_ ?_
                           · first
                               | exact hxs
                               | exact hxs.up (by decide)
                           · repeat (first | exact hM.ms | refine mss.up0 ?_ (by decide))
                           · first
                               | (rw [h7, aup_s]; done)
                               | (rw [aup_s, aup_s, hu, if_pos (by omega)]; done)
                               | (rw [aup_s, aup_s, hu]; rfl)
                           · (repeat rw [aup_n (by omega)]); rw [h8, hM.2.2.2 3 (by decide) (by decide) (by decide) (by decide)]
                           · (repeat rw [aup_n (by omega)]); rw [h9, hM.2.2.2 4 (by decide) (by decide) (by decide) (by decide)])
              · first
                  | (exfalso; omega)
                  | skip
                    refine aK_i ?_
                    refine aw_ifne (tgt := 26) dX7_soonest_17 (by decide) (fun h => absurd h (by decide)) (fun _ => ?_)
                    refine aw_aload_n dX7_soonest_20 rfl ?_
                    refine aw_iconst dX7_soonest_21 (by decide) ?_
                    refine c_X7_72 rfl dX7_soonest_22 m_ob (Nat.le_of_ble_eq_true rfl) (by omega) (C_m_refuse ?_)
                    refine aK_i ?_
                    refine aw_ireturn dX7_soonest_25 rfl ?_
                    first
                      | (exfalso; omega)
                      | (refine XR.sameE h ?_ ?_ ?_ ?_ ?_ ?_
                         · first
                             | rfl
                             | omega
                         · repeat (first | exact xs.rf | refine xs.up ?_ (by decide))
                         · repeat (first | exact mss.rf | refine mss.up0 ?_ (by decide))
                         · first
                             | (simp [aup, hv2, hv3, hv4]; done)
                             | (simp [aup, hv2, hv3, hv4]; omega)
                         · simp [aup, hv2, hv3, hv4]
                         · simp [aup, hv2, hv3, hv4])
        · first
            | (exfalso; omega)
            | skip
              refine aK_i ?_
              refine aw_ifeq (tgt := 20) dX7_soonest_5 (by decide) (fun _ => ?_) (fun h => absurd h (by decide))
              refine aw_aload_n dX7_soonest_20 rfl ?_
              refine aw_iconst dX7_soonest_21 (by decide) ?_
              refine c_X7_72 rfl dX7_soonest_22 m_ob (Nat.le_of_ble_eq_true rfl) (by omega) (C_m_refuse ?_)
              refine aK_i ?_
              refine aw_ireturn dX7_soonest_25 rfl ?_
              first
                | (exfalso; omega)
                | (refine XR.sameE h ?_ ?_ ?_ ?_ ?_ ?_
                   · first
                       | rfl
                       | omega
                   · repeat (first | exact xs.rf | refine xs.up ?_ (by decide))
                   · repeat (first | exact mss.rf | refine mss.up0 ?_ (by decide))
                   · first
                       | (simp [aup, hv2, hv3, hv4]; done)
                       | (simp [aup, hv2, hv3, hv4]; omega)
                   · simp [aup, hv2, hv3, hv4]
                   · simp [aup, hv2, hv3, hv4])
    · refine aK_i ?_
      refine aw_ifeq (tgt := 25) dX0_soonest_18 (by decide) (fun _ => ?_) (fun h => absurd h (by decide))
      refine aw_iconst dX0_soonest_25 (by decide) ?_
      refine p_X0_73_0 rfl dX0_soonest_26 hR.o0 ?_
      refine aw_aload_n dX0_soonest_29 rfl ?_
      refine g_X0_73_0 rfl dX0_soonest_30 hR.o0 ?_
      repeat (first | rw [aup_s] | rw [aup_n (by omega)])
      refine aw_ifle (tgt := 38) dX0_soonest_33 (by decide) (fun h => absurd h (by decide)) (fun _ => ?_)
      refine aw_iconst dX0_soonest_36 (by decide) ?_
      refine aw_ireturn dX0_soonest_37 rfl ?_
      refine ⟨_, rfl, ?_⟩
      refine AMet.go (L := [some (vR 0), some (vI a), some (vI b), none]) mok_X7_soonest (Nat.le_of_ble_eq_true rfl) rfl ?_
      refine aw_aload_n dX7_soonest_0 rfl ?_
      refine aw_iload_n dX7_soonest_1 rfl ?_
      refine c_X7_274 rfl dX7_soonest_2 m_ob (Nat.le_of_ble_eq_true rfl) (by omega) (C_m_isHive (fun hh => ?_) (fun hh => ?_))
      · first
          | (exfalso; omega)
          | skip
            refine aK_i ?_
            refine aw_ifeq (tgt := 20) dX7_soonest_5 (by decide) (fun h => absurd h (by decide)) (fun _ => ?_)
            refine aw_iload_n dX7_soonest_8 rfl ?_
            refine aw_i2l dX7_soonest_9 ?_
            refine aw_lconst0 dX7_soonest_10 ?_
            refine aw_ldc2 (x := 9999) dX7_soonest_11 q1843 (by decide) ?_
            refine c_X7_306 rfl dX7_soonest_14  (Nat.le_of_ble_eq_true rfl) (by omega) (C_m_isFrom (fun hfr => ?_) (fun hfr => ?_))
            · first
                | (exfalso; omega)
                | skip
                  refine aK_i ?_
                  refine aw_ifne (tgt := 26) dX7_soonest_17 (by decide) (fun _ => ?_) (fun h => absurd h (by decide))
                  refine aw_aload_n dX7_soonest_26 rfl ?_
                  refine aw_iload_n dX7_soonest_27 rfl ?_
                  refine c_X7_361 rfl dX7_soonest_28 m_ob (Nat.le_of_ble_eq_true rfl) (by omega) (C_m_tries (by omega) (fun ct2 t1 t2 => ?_))
                  have hF2 : Fok ct2 := by
                    have q := HF
                    unfold Fok FC at q ⊢
                    rw [t2 0 (by decide), t2 9 (by decide)]
                    exact q
                  have hd2 : dfr cm ct2 := ⟨fun b b0 b1 b9 => t2 b b1, fun i _ _ _ _ => by rw [t2 0 (by decide)]⟩
                  refine aK_v ?_
                  refine aw_iconst dX7_soonest_31 (by decide) ?_
                  refine aw_istore3 dX7_soonest_32 (by decide) rfl ?_
                  refine L_m_soo (a := a) (w := b) (R := (sooE (cpR (64 + 198 * a) 7380 198 (cm 1)) (laK (cm 1) a) b 61 0)) (by omega) (by omega) hti (fun i hi => cp_out hi) gh.1 (by omega) ⟨hqa.1, hqb⟩ hla (fun e8 ct3 hM => ?_) (fun e8 ct3 hM => ?_) 61 0 0 ct2 (by omega) (by omega) rfl t1 hF2 hd2
                  · first
                      | exact absurd e9 e8
                      | (refine aw_aload_n dX7_soonest_51 rfl ?_
                         refine aw_iload_n dX7_soonest_52 rfl ?_
                         refine c_X7_76 rfl dX7_soonest_53 m_ob (Nat.le_of_ble_eq_true rfl) (by omega) (C_m_gives ?_)
                         refine aK_i ?_
                         refine aw_ireturn dX7_soonest_56 rfl ?_
                         refine XR.sameE h2 (by omega) ?_ ?_ ?_ ?_ ?_
                         · first
                             | exact hxs
                             | exact hxs.up (by decide)
                         · repeat (first | exact hM.ms | refine mss.up0 ?_ (by decide))
                         · first
                             | (rw [h7, aup_s]; done)
                             | (rw [aup_s, aup_s, hu, if_pos (by omega)]; done)
                             | (rw [aup_s, aup_s, hu]; rfl)
                         · (repeat rw [aup_n (by omega)]); rw [h8, hM.2.2.2 3 (by decide) (by decide) (by decide) (by decide)]
                         · (repeat rw [aup_n (by omega)]); rw [h9, hM.2.2.2 4 (by decide) (by decide) (by decide) (by decide)])
                  · first
                      | exact absurd e8 e9
                      | (refine aw_aload_n dX7_soonest_75 rfl ?_
                         refine aw_bipush dX7_soonest_76 (by decide) ?_
                         refine c_X7_72 rfl dX7_soonest_78 m_ob (Nat.le_of_ble_eq_true rfl) (by omega) (C_m_refuse ?_)
                         refine aK_i ?_
                         refine aw_ireturn dX7_soonest_81 rfl ?_
                         refine XR.sameE h2 (by omega) ?_ ?_ ?_ ?_ ?_
                         · first
                             | exact hxs
                             | exact hxs.up (by decide)
                         · repeat (first | exact hM.ms | refine mss.up0 ?_ (by decide))
                         · first
                             | (rw [h7, aup_s]; done)
                             | (rw [aup_s, aup_s, hu, if_pos (by omega)]; done)
                             | (rw [aup_s, aup_s, hu]; rfl)
                         · (repeat rw [aup_n (by omega)]); rw [h8, hM.2.2.2 3 (by decide) (by decide) (by decide) (by decide)]
                         · (repeat rw [aup_n (by omega)]); rw [h9, hM.2.2.2 4 (by decide) (by decide) (by decide) (by decide)])
            · first
                | (exfalso; omega)
                | skip
                  refine aK_i ?_
                  refine aw_ifne (tgt := 26) dX7_soonest_17 (by decide) (fun h => absurd h (by decide)) (fun _ => ?_)
                  refine aw_aload_n dX7_soonest_20 rfl ?_
                  refine aw_iconst dX7_soonest_21 (by decide) ?_
                  refine c_X7_72 rfl dX7_soonest_22 m_ob (Nat.le_of_ble_eq_true rfl) (by omega) (C_m_refuse ?_)
                  refine aK_i ?_
                  refine aw_ireturn dX7_soonest_25 rfl ?_
                  first
                    | (exfalso; omega)
                    | (refine XR.sameE h ?_ ?_ ?_ ?_ ?_ ?_
                       · first
                           | rfl
                           | omega
                       · repeat (first | exact xs.rf | refine xs.up ?_ (by decide))
                       · repeat (first | exact mss.rf | refine mss.up0 ?_ (by decide))
                       · first
                           | (simp [aup, hv2, hv3, hv4]; done)
                           | (simp [aup, hv2, hv3, hv4]; omega)
                       · simp [aup, hv2, hv3, hv4]
                       · simp [aup, hv2, hv3, hv4])
      · first
          | (exfalso; omega)
          | skip
            refine aK_i ?_
            refine aw_ifeq (tgt := 20) dX7_soonest_5 (by decide) (fun _ => ?_) (fun h => absurd h (by decide))
            refine aw_aload_n dX7_soonest_20 rfl ?_
            refine aw_iconst dX7_soonest_21 (by decide) ?_
            refine c_X7_72 rfl dX7_soonest_22 m_ob (Nat.le_of_ble_eq_true rfl) (by omega) (C_m_refuse ?_)
            refine aK_i ?_
            refine aw_ireturn dX7_soonest_25 rfl ?_
            first
              | (exfalso; omega)
              | (refine XR.sameE h ?_ ?_ ?_ ?_ ?_ ?_
                 · first
                     | rfl
                     | omega
                 · repeat (first | exact xs.rf | refine xs.up ?_ (by decide))
                 · repeat (first | exact mss.rf | refine mss.up0 ?_ (by decide))
                 · first
                     | (simp [aup, hv2, hv3, hv4]; done)
                     | (simp [aup, hv2, hv3, hv4]; omega)
                 · simp [aup, hv2, hv3, hv4]
                 · simp [aup, hv2, hv3, hv4])
  · refine aK_i ?_
    refine aw_ifeq (tgt := 25) dX0_soonest_6 (by decide) (fun _ => ?_) (fun h => absurd h (by decide))
    refine aw_iconst dX0_soonest_25 (by decide) ?_
    refine p_X0_73_0 rfl dX0_soonest_26 hR.o0 ?_
    refine aw_aload_n dX0_soonest_29 rfl ?_
    refine g_X0_73_0 rfl dX0_soonest_30 hR.o0 ?_
    repeat (first | rw [aup_s] | rw [aup_n (by omega)])
    refine aw_ifle (tgt := 38) dX0_soonest_33 (by decide) (fun h => absurd h (by decide)) (fun _ => ?_)
    refine aw_iconst dX0_soonest_36 (by decide) ?_
    refine aw_ireturn dX0_soonest_37 rfl ?_
    refine ⟨_, rfl, ?_⟩
    refine AMet.go (L := [some (vR 0), some (vI a), some (vI b), none]) mok_X7_soonest (Nat.le_of_ble_eq_true rfl) rfl ?_
    refine aw_aload_n dX7_soonest_0 rfl ?_
    refine aw_iload_n dX7_soonest_1 rfl ?_
    refine c_X7_274 rfl dX7_soonest_2 m_ob (Nat.le_of_ble_eq_true rfl) (by omega) (C_m_isHive (fun hh => ?_) (fun hh => ?_))
    · first
        | (exfalso; omega)
        | skip
          refine aK_i ?_
          refine aw_ifeq (tgt := 20) dX7_soonest_5 (by decide) (fun h => absurd h (by decide)) (fun _ => ?_)
          refine aw_iload_n dX7_soonest_8 rfl ?_
          refine aw_i2l dX7_soonest_9 ?_
          refine aw_lconst0 dX7_soonest_10 ?_
          refine aw_ldc2 (x := 9999) dX7_soonest_11 q1843 (by decide) ?_
          refine c_X7_306 rfl dX7_soonest_14  (Nat.le_of_ble_eq_true rfl) (by omega) (C_m_isFrom (fun hfr => ?_) (fun hfr => ?_))
          · first
              | (exfalso; omega)
              | skip
                refine aK_i ?_
                refine aw_ifne (tgt := 26) dX7_soonest_17 (by decide) (fun _ => ?_) (fun h => absurd h (by decide))
                refine aw_aload_n dX7_soonest_26 rfl ?_
                refine aw_iload_n dX7_soonest_27 rfl ?_
                refine c_X7_361 rfl dX7_soonest_28 m_ob (Nat.le_of_ble_eq_true rfl) (by omega) (C_m_tries (by omega) (fun ct2 t1 t2 => ?_))
                have hF2 : Fok ct2 := by
                  have q := HF
                  unfold Fok FC at q ⊢
                  rw [t2 0 (by decide), t2 9 (by decide)]
                  exact q
                have hd2 : dfr cm ct2 := ⟨fun b b0 b1 b9 => t2 b b1, fun i _ _ _ _ => by rw [t2 0 (by decide)]⟩
                refine aK_v ?_
                refine aw_iconst dX7_soonest_31 (by decide) ?_
                refine aw_istore3 dX7_soonest_32 (by decide) rfl ?_
                refine L_m_soo (a := a) (w := b) (R := (sooE (cpR (64 + 198 * a) 7380 198 (cm 1)) (laK (cm 1) a) b 61 0)) (by omega) (by omega) hti (fun i hi => cp_out hi) gh.1 (by omega) ⟨hqa.1, hqb⟩ hla (fun e8 ct3 hM => ?_) (fun e8 ct3 hM => ?_) 61 0 0 ct2 (by omega) (by omega) rfl t1 hF2 hd2
                · first
                    | exact absurd e9 e8
                    | (refine aw_aload_n dX7_soonest_51 rfl ?_
                       refine aw_iload_n dX7_soonest_52 rfl ?_
                       refine c_X7_76 rfl dX7_soonest_53 m_ob (Nat.le_of_ble_eq_true rfl) (by omega) (C_m_gives ?_)
                       refine aK_i ?_
                       refine aw_ireturn dX7_soonest_56 rfl ?_
                       refine XR.sameE h2 (by omega) ?_ ?_ ?_ ?_ ?_
                       · first
                           | exact hxs
                           | exact hxs.up (by decide)
                       · repeat (first | exact hM.ms | refine mss.up0 ?_ (by decide))
                       · first
                           | (rw [h7, aup_s]; done)
                           | (rw [aup_s, aup_s, hu, if_pos (by omega)]; done)
                           | (rw [aup_s, aup_s, hu]; rfl)
                       · (repeat rw [aup_n (by omega)]); rw [h8, hM.2.2.2 3 (by decide) (by decide) (by decide) (by decide)]
                       · (repeat rw [aup_n (by omega)]); rw [h9, hM.2.2.2 4 (by decide) (by decide) (by decide) (by decide)])
                · first
                    | exact absurd e8 e9
                    | (refine aw_aload_n dX7_soonest_75 rfl ?_
                       refine aw_bipush dX7_soonest_76 (by decide) ?_
                       refine c_X7_72 rfl dX7_soonest_78 m_ob (Nat.le_of_ble_eq_true rfl) (by omega) (C_m_refuse ?_)
                       refine aK_i ?_
                       refine aw_ireturn dX7_soonest_81 rfl ?_
                       refine XR.sameE h2 (by omega) ?_ ?_ ?_ ?_ ?_
                       · first
                           | exact hxs
                           | exact hxs.up (by decide)
                       · repeat (first | exact hM.ms | refine mss.up0 ?_ (by decide))
                       · first
                           | (rw [h7, aup_s]; done)
                           | (rw [aup_s, aup_s, hu, if_pos (by omega)]; done)
                           | (rw [aup_s, aup_s, hu]; rfl)
                       · (repeat rw [aup_n (by omega)]); rw [h8, hM.2.2.2 3 (by decide) (by decide) (by decide) (by decide)]
                       · (repeat rw [aup_n (by omega)]); rw [h9, hM.2.2.2 4 (by decide) (by decide) (by decide) (by decide)])
          · first
              | (exfalso; omega)
              | skip
                refine aK_i ?_
                refine aw_ifne (tgt := 26) dX7_soonest_17 (by decide) (fun h => absurd h (by decide)) (fun _ => ?_)
                refine aw_aload_n dX7_soonest_20 rfl ?_
                refine aw_iconst dX7_soonest_21 (by decide) ?_
                refine c_X7_72 rfl dX7_soonest_22 m_ob (Nat.le_of_ble_eq_true rfl) (by omega) (C_m_refuse ?_)
                refine aK_i ?_
                refine aw_ireturn dX7_soonest_25 rfl ?_
                first
                  | (exfalso; omega)
                  | (refine XR.sameE h ?_ ?_ ?_ ?_ ?_ ?_
                     · first
                         | rfl
                         | omega
                     · repeat (first | exact xs.rf | refine xs.up ?_ (by decide))
                     · repeat (first | exact mss.rf | refine mss.up0 ?_ (by decide))
                     · first
                         | (simp [aup, hv2, hv3, hv4]; done)
                         | (simp [aup, hv2, hv3, hv4]; omega)
                     · simp [aup, hv2, hv3, hv4]
                     · simp [aup, hv2, hv3, hv4])
    · first
        | (exfalso; omega)
        | skip
          refine aK_i ?_
          refine aw_ifeq (tgt := 20) dX7_soonest_5 (by decide) (fun _ => ?_) (fun h => absurd h (by decide))
          refine aw_aload_n dX7_soonest_20 rfl ?_
          refine aw_iconst dX7_soonest_21 (by decide) ?_
          refine c_X7_72 rfl dX7_soonest_22 m_ob (Nat.le_of_ble_eq_true rfl) (by omega) (C_m_refuse ?_)
          refine aK_i ?_
          refine aw_ireturn dX7_soonest_25 rfl ?_
          first
            | (exfalso; omega)
            | (refine XR.sameE h ?_ ?_ ?_ ?_ ?_ ?_
               · first
                   | rfl
                   | omega
               · repeat (first | exact xs.rf | refine xs.up ?_ (by decide))
               · repeat (first | exact mss.rf | refine mss.up0 ?_ (by decide))
               · first
                   | (simp [aup, hv2, hv3, hv4]; done)
                   | (simp [aup, hv2, hv3, hv4]; omega)
               · simp [aup, hv2, hv3, hv4]
               · simp [aup, hv2, hv3, hv4])
theorem L_x_sta {own : Int → Int} {sz sz1 : Int} {im im1 : Int → aIm} {ct : Int → Int → Int} {s N t0 : Int → Int} {dd k A n b w : Int} {Q : aPost} {d kc ks : Nat} (hd : 5 ≤ d) (hR0 : RT own sz im ct) (HY0 : YR own 0 sz im ct 10 s dd N) (HL0 : LR own sz im ct (ct 10 0) s N) (h0 : TI t0 n b) (hn : 1 ≤ n ∧ n ≤ 12) (hb : b ≤ 50000000) (hq : -1 ≤ s (64 + 198 * k + 3) ∧ s (64 + 198 * k + 3) < s 1) (hy : -100 ≤ laK s k ∧ laK s k ≤ 100) (hw : 0 ≤ w ∧ w ≤ 100000) (hQ : ∀ ct2 : Int → Int → Int, XT sz sz1 im im1 ct ct2 A n (s (64 + 198 * k + 3)) (tryR t0 (laK s k) w.toNat) → Q (.inl (some (vI (staN t0 n (laK s k) w.toNat)))) (sz1, im1, ct2)) : ∀ (r j : Nat) (ct1 : Int → Int → Int), (j : Int) + r = w → XT sz sz1 im im1 ct ct1 A n (s (64 + 198 * k + 3)) (tryR t0 (laK s k) j) → AW (mq Q) md_X0_starve d kc ks 5 [some (vR 0), some (vR A), some (vI w), some (vI (staN t0 n (laK s k) j)), some (vI j)] [] (sz1, im1, ct1) := by
  intro r
  induction r with
  | zero =>
    intro j ct1 h1 H
    have ej : w.toNat = j := by omega
    rw [ej] at hQ
    have hT := (h0.tr (y := laK s k) hn j).1
    have T : TRn own own sz sz1 im im1 ct ct1 := ⟨H.1.1, H.1.2.1, H.1.2.2, fun _ _ _ => rfl⟩
    have hR := RT.tr T hR0
    have HY := HY0.mono H.1.1 H.1.2.1 H.1.2.2 (fun _ _ => rfl)
    have HL := LR.tr T HL0
    have e10 : ct1 10 0 = ct 10 0 := by rw [H.1.2.2 10 HY0.1.2.1]
    refine aw_iload dX0_starve_5 rfl ?_
    refine aw_iload_n dX0_starve_7 rfl ?_
    refine aw_icmpge (tgt := 36) dX0_starve_8 (by decide) (fun h8 => ?_) (fun h8 => ?_)
    · refine aw_iload_n dX0_starve_36 rfl ?_
      refine aw_ireturn dX0_starve_37 rfl ?_
      exact hQ _ H
    · exfalso; omega
  | succ r ih =>
    intro j ct1 h1 H
    have hs9 := staN_bd (y := laK s k) h0 hn j
    have hs8 := staN_bd (y := laK s k) h0 hn (j + 1)
    have es : staN t0 n (laK s k) (j + 1) = staN t0 n (laK s k) j + sta (tryR t0 (laK s k) j) n (laK s k) := rfl
    have hp9 := (h0.tr (y := laK s k) hn j).1.2.2.1.1
    have hp8 := (h0.tr (y := laK s k) hn (j + 1)).1.2.2.1.1
    rw [es] at hs8
    have hT := (h0.tr (y := laK s k) hn j).1
    have T : TRn own own sz sz1 im im1 ct ct1 := ⟨H.1.1, H.1.2.1, H.1.2.2, fun _ _ _ => rfl⟩
    have hR := RT.tr T hR0
    have HY := HY0.mono H.1.1 H.1.2.1 H.1.2.2 (fun _ _ => rfl)
    have HL := LR.tr T HL0
    have e10 : ct1 10 0 = ct 10 0 := by rw [H.1.2.2 10 HY0.1.2.1]
    refine aw_iload dX0_starve_5 rfl ?_
    refine aw_iload_n dX0_starve_7 rfl ?_
    refine aw_icmpge (tgt := 36) dX0_starve_8 (by decide) (fun h8 => ?_) (fun h8 => ?_)
    · exfalso; omega
    · refine aw_aload_n dX0_starve_11 rfl ?_
      refine aw_aload_n dX0_starve_12 rfl ?_
      refine c_X0_158 rfl dX0_starve_13 hR.o0 (Nat.le_of_ble_eq_true rfl) (by omega) (C_x_yard2 hR ?_)
      refine aK_i ?_
      refine aw_aload_n dX0_starve_16 rfl ?_
      refine c_X0_397 rfl dX0_starve_17 HY.1 (Nat.le_of_ble_eq_true rfl) (by omega) (C_x_laysIn HY.1 H.2.2.1.1 e10 HL H.2.2.2.2.1.2.2 hq.1 hq.2 ?_)
      refine aK_i ?_
      refine c_X0_401 rfl dX0_starve_20 H.2.2.1.1 (Nat.le_of_ble_eq_true rfl) (by omega) (C_x_tday H hT hy (by omega) (fun ct2 H2 y10 => ?_))
      refine aK_v ?_
      refine aw_iload_n dX0_starve_23 rfl ?_
      refine aw_aload_n dX0_starve_24 rfl ?_
      refine g_X0_403_9 rfl dX0_starve_25 H.2.2.1.1 ?_
      rw [show ct2 A 10 = sta (tryR t0 (laK s k) j) n (laK s k) from y10]
      refine aw_iaddr dX0_starve_28 (by omega) ?_
      refine aw_istore3 dX0_starve_29 (by decide) rfl ?_
      refine aw_iinc4r dX0_starve_30 (by decide) (by decide) rfl (by omega) ?_
      refine aw_goto (tgt := 5) dX0_starve_33 (by decide) ?_
      exact ih (j + 1) ct2 (by omega) H2
theorem C_x_starve {own : Int → Int} {sz sz1 : Int} {im im1 : Int → aIm} {ct ct1 : Int → Int → Int} {s N t0 : Int → Int} {dd k A n b w : Int} {Q : aPost} (hR0 : RT own sz im ct) (HY0 : YR own 0 sz im ct 10 s dd N) (HL0 : LR own sz im ct (ct 10 0) s N) (h0 : TI t0 n b) (hn : 1 ≤ n ∧ n ≤ 12) (hb : b ≤ 50000000) (hq : -1 ≤ s (64 + 198 * k + 3) ∧ s (64 + 198 * k + 3) < s 1) (hy : -100 ≤ laK s k ∧ laK s k ≤ 100) (hw : 0 ≤ w ∧ w ≤ 100000) (H : XT sz sz1 im im1 ct ct1 A n (s (64 + 198 * k + 3)) (tryR t0 (laK s k) 0)) (hQ : ∀ ct2 : Int → Int → Int, XT sz sz1 im im1 ct ct2 A n (s (64 + 198 * k + 3)) (tryR t0 (laK s k) w.toNat) → Q (.inl (some (vI (staN t0 n (laK s k) w.toNat)))) (sz1, im1, ct2)) : AMet md_X0_starve 5 0 0 [vR 0, vR A, vI w] (sz1, im1, ct1) Q := by
  refine AMet.go (L := [some (vR 0), some (vR A), some (vI w), none, none]) mok_X0_starve (Nat.le_of_ble_eq_true rfl) rfl ?_
  refine aw_iconst dX0_starve_0 (by decide) ?_
  refine aw_istore3 dX0_starve_1 (by decide) rfl ?_
  refine aw_iconst dX0_starve_2 (by decide) ?_
  refine aw_istore4 dX0_starve_3 (by decide) rfl ?_
  exact L_x_sta (by omega) hR0 HY0 HL0 h0 hn hb hq hy hw hQ w.toNat 0 ct1 (by omega) H
theorem L_m_for {cm : Int → Int → Int} {t0 : Int → Int} {a n b w g : Int} {Q : aPost} {d kc ks : Nat} (hd : 4 ≤ d) (ha : 0 ≤ a ∧ a < 4) (h0 : TI t0 n b) (ht : ∀ i, i < 7380 → t0 i = cm 1 i) (hn : 1 ≤ n ∧ n ≤ 12) (hb : b ≤ 50000000) (hq : -1 ≤ cm 1 (64 + 198 * a + 3) ∧ cm 1 (64 + 198 * a + 3) < 8) (hy : -100 ≤ laK (cm 1) a ∧ laK (cm 1) a ≤ 100) (hw : 0 ≤ w ∧ w ≤ 100000) (K : ∀ ct1 : Int → Int → Int, mtr cm ct1 → ct1 1 = tryR t0 (laK (cm 1) a) w.toNat → AW (mq Q) md_X7_forecast d kc ks 79 [some (vR 0), some (vI a), some (vI w), some (vI g), some (vI (staN t0 n (laK (cm 1) a) w.toNat)), some (vI w)] [] (gM ct1)) : ∀ (r j : Nat) (ct1 : Int → Int → Int), (j : Int) + r = w → ct1 1 = tryR t0 (laK (cm 1) a) j → Fok ct1 → dfr cm ct1 → AW (mq Q) md_X7_forecast d kc ks 46 [some (vR 0), some (vI a), some (vI w), some (vI g), some (vI (staN t0 n (laK (cm 1) a) j)), some (vI j)] [] (gM ct1) := by
  intro r
  induction r with
  | zero =>
    intro j ct1 h1 e1 hF hf
    have ej : w.toNat = j := by omega
    have ej2 : (j : Int) = w := by omega
    rw [ej] at K
    have hT := (h0.tr (y := laK (cm 1) a) hn j)
    have hM : mtr cm ct1 := ⟨hF, fun i hi => by rw [e1, hT.2 i hi]; exact ht i hi, hf⟩
    have eL := hM.lay ha hq
    have hq1 : ct1 1 (64 + 198 * a + 3) < 8 ∧ -1 ≤ ct1 1 (64 + 198 * a + 3) := by rw [hM.2.1 _ (by omega)]; omega
    refine aw_iload dX7_forecast_46 rfl ?_
    refine aw_iload_n dX7_forecast_48 rfl ?_
    refine aw_icmpge (tgt := 79) dX7_forecast_49 (by decide) (fun h49 => ?_) (fun h49 => ?_)
    · rw [ej2]
      exact K _ hM e1
    · exfalso; omega
  | succ r ih =>
    intro j ct1 h1 e1 hF hf
    have hs9 := staN_bd (y := laK (cm 1) a) h0 hn j
    have hs8 := staN_bd (y := laK (cm 1) a) h0 hn (j + 1)
    have es : staN t0 n (laK (cm 1) a) (j + 1) = staN t0 n (laK (cm 1) a) j + sta (tryR t0 (laK (cm 1) a) j) n (laK (cm 1) a) := rfl
    have hp9 := (h0.tr (y := laK (cm 1) a) hn j).1.2.2.1.1
    have hp8 := (h0.tr (y := laK (cm 1) a) hn (j + 1)).1.2.2.1.1
    rw [es] at hs8
    have hT := (h0.tr (y := laK (cm 1) a) hn j)
    have hM : mtr cm ct1 := ⟨hF, fun i hi => by rw [e1, hT.2 i hi]; exact ht i hi, hf⟩
    have eL := hM.lay ha hq
    have hq1 : ct1 1 (64 + 198 * a + 3) < 8 ∧ -1 ≤ ct1 1 (64 + 198 * a + 3) := by rw [hM.2.1 _ (by omega)]; omega
    refine aw_iload dX7_forecast_46 rfl ?_
    refine aw_iload_n dX7_forecast_48 rfl ?_
    refine aw_icmpge (tgt := 79) dX7_forecast_49 (by decide) (fun h49 => ?_) (fun h49 => ?_)
    · exfalso; omega
    · refine aw_aload_n dX7_forecast_52 rfl ?_
      refine aw_sipush dX7_forecast_53 (by decide) ?_
      refine aw_aload_n dX7_forecast_56 rfl ?_
      refine aw_iload_n dX7_forecast_57 rfl ?_
      refine c_X7_267 rfl dX7_forecast_58 m_ob (Nat.le_of_ble_eq_true rfl) (by omega) (C_m_lays (by omega) hq1 ?_)
      refine aK_i ?_
      rw [eL]
      refine c_X7_270 rfl dX7_forecast_61 m_ob (Nat.le_of_ble_eq_true rfl) (by omega) (C_m_tday hF (by rw [e1]; exact hT.1) hn hy (by omega) (fun ct2 hF2 e2 a27 f2 => ?_))
      rw [e1] at a27
      have e3 : ct2 1 = tryR t0 (laK (cm 1) a) (j + 1) := by rw [e2, e1]; rfl
      have hf2 := hf.trans f2
      have hM2 : mtr cm ct2 := ⟨hF2, fun i hi => by rw [e3, (h0.tr (y := laK (cm 1) a) hn (j + 1)).2 i hi]; exact ht i hi, hf2⟩
      refine aK_v ?_
      refine aw_iload dX7_forecast_64 rfl ?_
      refine gm_264 rfl dX7_forecast_66 dX7_forecast_67 rfl ?_
      rw [show ct2 0 27 = sta (tryR t0 (laK (cm 1) a) j) n (laK (cm 1) a) from a27]
      refine aw_iaddr dX7_forecast_70 (by omega) ?_
      refine aw_istore4 dX7_forecast_71 (by decide) rfl ?_
      refine aw_iinc5r dX7_forecast_73 (by decide) (by decide) rfl (by omega) ?_
      refine aw_goto (tgt := 46) dX7_forecast_76 (by decide) ?_
      exact ih (j + 1) ct2 (by omega) e3 hF2 hf2
theorem OP_forecast {sz : Int} {im : Int → aIm} {ct cm : Int → Int → Int} (h : XR (sz, im, ct) cm) {a b c : Int} (r0 : -2147483648 ≤ a ∧ a < 2147483648) (r1 : -2147483648 ≤ b ∧ b < 2147483648) (r2 : -2147483648 ≤ c ∧ c < 2147483648)  : AMet md_X0_forecast 6 15 227 [vR 0, vI a, vI b, vI c] (sz, im, ct) (XQ md_X7_forecast 6 [vR 0, vI a, vI b, vI c] cm) := by
  obtain ⟨own, N, hR, HY, HL, HN, HS, HP, HF, HX, hv2, hv3, hv4⟩ := id h
  dsimp only at hR HY HL HS HX hv2 hv3 hv4
  have hp0 := HP.1
  have hp3 := HP.2.1
  have hpq := HP.2.2.2.1.1
  have hps := HP.2.2.2.2.2
  have hlt : ct 10 0 ≠ 0 := fun e => by have q1 := HL.2.2.1.1; rw [e] at q1; have q2 := hR.1.2; omega
  have hPQ := HP.2.2.2.1
  have HL1 := HL.up0 (j := 7) (v := 0) hR.1.2
  refine AMet.go (L := [some (vR 0), some (vI a), some (vI b), some (vI c), none, none]) mok_X0_forecast (Nat.le_of_ble_eq_true rfl) rfl ?_
  refine aw_aload_n dX0_forecast_0 rfl ?_
  refine aw_aload_n dX0_forecast_1 rfl ?_
  refine aw_iload_n dX0_forecast_2 rfl ?_
  refine c_X0_168 rfl dX0_forecast_3 hR.o0 (Nat.le_of_ble_eq_true rfl) (by omega) (C_x_isHive hR HY (fun xh => ?_) (fun xh => ?_))
  · refine aK_i ?_
    refine aw_ifeq (tgt := 37) dX0_forecast_6 (by decide) (fun h => absurd h (by decide)) (fun _ => ?_)
    refine aw_iload_n dX0_forecast_9 rfl ?_
    refine aw_i2l dX0_forecast_10 ?_
    refine aw_lconst0 dX0_forecast_11 ?_
    refine aw_ldc2 (x := 60) dX0_forecast_12 q1075 (by decide) ?_
    refine c_X0_164 rfl dX0_forecast_15  (Nat.le_of_ble_eq_true rfl) (by omega) (C_x_isIn (fun hi => ?_) (fun hi => ?_))
    · refine aK_i ?_
      refine aw_ifeq (tgt := 37) dX0_forecast_18 (by decide) (fun h => absurd h (by decide)) (fun _ => ?_)
      refine aw_iload_n dX0_forecast_21 rfl ?_
      refine aw_i2l dX0_forecast_22 ?_
      refine aw_lconst0 dX0_forecast_23 ?_
      refine aw_ldc2 (x := 2) dX0_forecast_24 q1039 (by decide) ?_
      refine c_X0_164 rfl dX0_forecast_27  (Nat.le_of_ble_eq_true rfl) (by omega) (C_x_isIn (fun hi => ?_) (fun hi => ?_))
      · refine aK_i ?_
        refine aw_ifeq (tgt := 37) dX0_forecast_30 (by decide) (fun h => absurd h (by decide)) (fun _ => ?_)
        refine aw_iconst dX0_forecast_33 (by decide) ?_
        refine aw_goto (tgt := 38) dX0_forecast_34 (by decide) ?_
        refine p_X0_73_0 rfl dX0_forecast_38 hR.o0 ?_
        refine aw_aload_n dX0_forecast_41 rfl ?_
        refine g_X0_73_0 rfl dX0_forecast_42 hR.o0 ?_
        repeat (first | rw [aup_s] | rw [aup_n (by omega)])
        refine aw_ifle (tgt := 50) dX0_forecast_45 (by decide) (fun _ => ?_) (fun h => absurd h (by decide))
        obtain ⟨hv, ehv, ⟨g1, g2, ⟨g3, g4, g5, g6, g7⟩, g8, g9, -⟩, nhv0, nhv10, nhv9, nv0, nvhv, nv10, ohv⟩ := (HY.up0 (j := 7) (v := 0) hR.1.2 (by decide)).hv (hR.up0 (j := 7) (v := 0)) (k := a) (by omega) (by omega)
        have gn := g1.2.2.2
        have gh := HP.2.2.1 a (by omega) (by omega)
        have gq := gh.2.2.2.2.1
        have gp := HP.pd.2.1 a (by omega) (by omega)
        refine aw_aload_n dX0_forecast_50 rfl ?_
        refine aw_iload_n dX0_forecast_51 rfl ?_
        refine c_X0_172 rfl dX0_forecast_52 hR.o0 (Nat.le_of_ble_eq_true rfl) (by omega) (C_x_xat2 (a := hv) hR HY (by omega) ehv ?_)
        refine aK_i ?_
        refine c_X0_393a (kc1 := 15) (ks1 := 227) (kc2 := 0) (ks2 := 0) (by decide) (by decide) rfl dX0_forecast_55 g1.1 (Nat.le_of_ble_eq_true rfl) (by omega) (C_x_hcopy g1 g2 (fun im1 ct1 hS1 hC1 z0 z3 z4 z5 z6 z7 zx z1 z2 zf => ?_))
        refine aK_v ?_
        refine aw_astore4 dX0_forecast_58 (by decide) rfl ?_
        have hti := TI.cp (k := a) HP (by omega) (by omega)
        have hqa : -1 ≤ cm 1 (64 + 198 * a + 3) ∧ cm 1 (64 + 198 * a + 3) < cm 1 1 := gq
        have hqb : cm 1 (64 + 198 * a + 3) < 8 := by omega
        have hla : -100 ≤ laK (cm 1) a ∧ laK (cm 1) a ≤ 100 := by
          unfold laK
          split
          · omega
          · have := (HP.2.2.2.1.2.2.1 (cm 1 (64 + 198 * a + 3)) (by omega) (by omega)).1
            omega
        have HXT : XT sz (sz + cm 1 (64 + 198 * a) + 3) im im1 (aup ct 0 7 0) ct1 sz (cm 1 (64 + 198 * a)) (cm 1 (64 + 198 * a + 3)) (tryR (cpR (64 + 198 * a) 7380 198 (cm 1)) (laK (cm 1) a) 0) := by
          refine ⟨⟨by omega, fun x hx => (zx x hx).1, fun x hx => (zx x hx).2⟩, Int.le_refl _, hS1, hC1.cong (fun i i0 i1 => (cp_sh i0 (by omega)).symm), ⟨?_, ?_, ?_⟩, fun f f0 f1 => by rw [z1, zf f f0 f1]; omega⟩
          · rw [z3, g3]; exact (cp_in (by omega) (by omega)).symm
          · rw [z4, g4]; exact (cp_in (by omega) (by omega)).symm
          · rw [z5, g5]
        have T9 : TRn own own sz (sz + cm 1 (64 + 198 * a) + 3) im im1 (aup ct 0 7 0) ct1 := ⟨HXT.1.1, HXT.1.2.1, HXT.1.2.2, fun _ _ _ => rfl⟩
        have hR9 := RT.tr T9 (hR.up0 (j := 7) (v := 0))
        refine aw_aload_n dX0_forecast_60 rfl ?_
        refine aw_aload dX0_forecast_61 rfl ?_
        refine aw_iload_n dX0_forecast_63 rfl ?_
        refine c_X0_414 rfl dX0_forecast_64 hR9.o0 (Nat.le_of_ble_eq_true rfl) (by omega) (C_x_starve (k := a) (hR.up0 (j := 7) (v := 0)) (HY.up0 (j := 7) (v := 0) hR.1.2 (by decide)) HL1 hti gh.1 (by omega) hqa hla (by omega) HXT (fun ct2x H2 => ?_))
        have hlt0 := H2.1.2.2
        obtain ⟨ctq, h2, hxs, h7, h8, h9⟩ := h.tried (sz1 := sz + cm 1 (64 + 198 * a) + 3) (by omega) (fun x hx => (zx x hx).1) H2.1.2.2
        have hTw := (hti.tr (y := laK (cm 1) a) gh.1 b.toNat).1
        refine aK_i ?_
        refine aw_istore5 dX0_forecast_67 (by decide) rfl ?_
        refine aw_iload_n dX0_forecast_69 rfl ?_
        refine aw_ifne (tgt := 81) dX0_forecast_70 (by decide) (fun h70 => ?_) (fun h70 => ?_)
        · refine aw_iload_n dX0_forecast_81 rfl ?_
          refine aw_iconst dX0_forecast_82 (by decide) ?_
          refine aw_icmpne (tgt := 94) dX0_forecast_83 (by decide) (fun h83 => ?_) (fun h83 => ?_)
          · refine aw_iload dX0_forecast_94 rfl ?_
            refine aw_ireturn dX0_forecast_96 rfl ?_
            refine ⟨_, rfl, ?_⟩
            refine AMet.go (L := [some (vR 0), some (vI a), some (vI b), some (vI c), none, none]) mok_X7_forecast (Nat.le_of_ble_eq_true rfl) rfl ?_
            refine aw_aload_n dX7_forecast_0 rfl ?_
            refine aw_iload_n dX7_forecast_1 rfl ?_
            refine c_X7_274 rfl dX7_forecast_2 m_ob (Nat.le_of_ble_eq_true rfl) (by omega) (C_m_isHive (fun hh => ?_) (fun hh => ?_))
            · first
                | (exfalso; omega)
                | skip
                  refine aK_i ?_
                  refine aw_ifeq (tgt := 29) dX7_forecast_5 (by decide) (fun h => absurd h (by decide)) (fun _ => ?_)
                  refine aw_iload_n dX7_forecast_8 rfl ?_
                  refine aw_i2l dX7_forecast_9 ?_
                  refine aw_lconst0 dX7_forecast_10 ?_
                  refine aw_ldc2 (x := 60) dX7_forecast_11 q1822 (by decide) ?_
                  refine c_X7_306 rfl dX7_forecast_14  (Nat.le_of_ble_eq_true rfl) (by omega) (C_m_isFrom (fun hfr => ?_) (fun hfr => ?_))
                  · first
                      | (exfalso; omega)
                      | skip
                        refine aK_i ?_
                        refine aw_ifeq (tgt := 29) dX7_forecast_17 (by decide) (fun h => absurd h (by decide)) (fun _ => ?_)
                        refine aw_iload_n dX7_forecast_20 rfl ?_
                        refine aw_iflt (tgt := 29) dX7_forecast_21 (by decide) (fun h21 => ?_) (fun h21 => ?_)
                        · first
                            | (exfalso; omega)
                            | skip
                              refine aw_aload_n dX7_forecast_29 rfl ?_
                              refine aw_iconst dX7_forecast_30 (by decide) ?_
                              refine c_X7_72 rfl dX7_forecast_31 m_ob (Nat.le_of_ble_eq_true rfl) (by omega) (C_m_refuse ?_)
                              refine aK_i ?_
                              refine aw_ireturn dX7_forecast_34 rfl ?_
                              first
                                | (exfalso; omega)
                                | (refine XR.sameE h ?_ ?_ ?_ ?_ ?_ ?_
                                   · first
                                       | rfl
                                       | omega
                                   · repeat (first | exact xs.rf | refine xs.up ?_ (by decide))
                                   · repeat (first | exact mss.rf | refine mss.up0 ?_ (by decide))
                                   · first
                                       | (simp [aup, hv2, hv3, hv4]; done)
                                       | (simp [aup, hv2, hv3, hv4]; omega)
                                   · simp [aup, hv2, hv3, hv4]
                                   · simp [aup, hv2, hv3, hv4])
                        · first
                            | (exfalso; omega)
                            | skip
                              refine aw_iload_n dX7_forecast_24 rfl ?_
                              refine aw_iconst dX7_forecast_25 (by decide) ?_
                              refine aw_icmple (tgt := 35) dX7_forecast_26 (by decide) (fun h26 => ?_) (fun h26 => ?_)
                              · first
                                  | (exfalso; omega)
                                  | skip
                                    refine aw_aload_n dX7_forecast_35 rfl ?_
                                    refine aw_iload_n dX7_forecast_36 rfl ?_
                                    refine c_X7_361 rfl dX7_forecast_37 m_ob (Nat.le_of_ble_eq_true rfl) (by omega) (C_m_tries (by omega) (fun ct2 t1 t2 => ?_))
                                    have hF2 : Fok ct2 := by
                                      have q := HF
                                      unfold Fok FC at q ⊢
                                      rw [t2 0 (by decide), t2 9 (by decide)]
                                      exact q
                                    have hd2 : dfr cm ct2 := ⟨fun b b0 b1 b9 => t2 b b1, fun i _ _ _ _ => by rw [t2 0 (by decide)]⟩
                                    refine aK_v ?_
                                    refine aw_iconst dX7_forecast_40 (by decide) ?_
                                    refine aw_istore4 dX7_forecast_41 (by decide) rfl ?_
                                    refine aw_iconst dX7_forecast_43 (by decide) ?_
                                    refine aw_istore5 dX7_forecast_44 (by decide) rfl ?_
                                    refine L_m_for (a := a) (w := b) (g := c) (by omega) (by omega) hti (fun i hi => cp_out hi) gh.1 (by omega) ⟨hqa.1, hqb⟩ hla (by omega) (fun ct3 hM et => ?_) b.toNat 0 ct2 (by omega) t1 hF2 hd2
                                    have e71 : ct3 1 7381 = tryR (cpR (64 + 198 * a) 7380 198 (cm 1)) (laK (cm 1) a) b.toNat (7380 + 1) := by rw [et]; rfl
                                    refine aw_aload_n dX7_forecast_79 rfl ?_
                                    refine aw_iload_n dX7_forecast_80 rfl ?_
                                    refine aw_ifne (tgt := 95) dX7_forecast_81 (by decide) (fun h81 => ?_) (fun h81 => ?_)
                                    · first
                                        | (exfalso; omega)
                                        | skip
                                          refine aw_iload_n dX7_forecast_95 rfl ?_
                                          refine aw_iconst dX7_forecast_96 (by decide) ?_
                                          refine aw_icmpne (tgt := 111) dX7_forecast_97 (by decide) (fun h97 => ?_) (fun h97 => ?_)
                                          · first
                                              | (exfalso; omega)
                                              | skip
                                                refine aw_iload dX7_forecast_111 rfl ?_
                                                refine c_X7_76 rfl dX7_forecast_113 m_ob (Nat.le_of_ble_eq_true rfl) (by omega) (C_m_gives ?_)
                                                refine aK_i ?_
                                                refine aw_ireturn dX7_forecast_116 rfl ?_
                                                refine XR.sameE h2 (by omega) ?_ ?_ ?_ ?_ ?_
                                                · first
                                                    | exact hxs
                                                    | exact hxs.up (by decide)
                                                · repeat (first | exact hM.ms | refine mss.up0 ?_ (by decide))
                                                · first
                                                    | (rw [h7, aup_s]; done)
                                                    | (rw [aup_s, aup_s, hu, if_pos (by omega)]; done)
                                                    | (rw [aup_s, aup_s, hu]; rfl)
                                                · (repeat rw [aup_n (by omega)]); rw [h8, hM.2.2.2 3 (by decide) (by decide) (by decide) (by decide)]
                                                · (repeat rw [aup_n (by omega)]); rw [h9, hM.2.2.2 4 (by decide) (by decide) (by decide) (by decide)]
                                          · first
                                              | (exfalso; omega)
                                              | skip
                                                refine aw_aload_n dX7_forecast_100 rfl ?_
                                                refine aw_sipush dX7_forecast_101 (by decide) ?_
                                                refine aw_iconst dX7_forecast_104 (by decide) ?_
                                                refine c_X7_283 rfl dX7_forecast_105 m_ob (Nat.le_of_ble_eq_true rfl) (by omega) (C_m_sumOf (n := cm 1 (64 + 198 * a)) (by rw [et]; exact hTw.1) gh.1 (by omega) (by rw [et]; exact hTw.2.1) ?_)
                                                refine aK_i ?_
                                                rw [et]
                                                refine aw_goto (tgt := 113) dX7_forecast_108 (by decide) ?_
                                                refine c_X7_76 rfl dX7_forecast_113 m_ob (Nat.le_of_ble_eq_true rfl) (by omega) (C_m_gives ?_)
                                                refine aK_i ?_
                                                refine aw_ireturn dX7_forecast_116 rfl ?_
                                                refine XR.sameE h2 (by omega) ?_ ?_ ?_ ?_ ?_
                                                · first
                                                    | exact hxs
                                                    | exact hxs.up (by decide)
                                                · repeat (first | exact hM.ms | refine mss.up0 ?_ (by decide))
                                                · first
                                                    | (rw [h7, aup_s]; done)
                                                    | (rw [aup_s, aup_s, hu, if_pos (by omega)]; done)
                                                    | (rw [aup_s, aup_s, hu]; rfl)
                                                · (repeat rw [aup_n (by omega)]); rw [h8, hM.2.2.2 3 (by decide) (by decide) (by decide) (by decide)]
                                                · (repeat rw [aup_n (by omega)]); rw [h9, hM.2.2.2 4 (by decide) (by decide) (by decide) (by decide)]
                                    · first
                                        | (exfalso; omega)
                                        | skip
                                          refine gm_7 rfl dX7_forecast_84 dX7_forecast_85 rfl ?_
                                          refine aw_sipush dX7_forecast_88 (by decide) ?_
                                          refine aw_iaload dX7_forecast_91 m_a1 (by omega) (by omega) ?_
                                          rw [e71]
                                          refine aw_goto (tgt := 113) dX7_forecast_92 (by decide) ?_
                                          refine c_X7_76 rfl dX7_forecast_113 m_ob (Nat.le_of_ble_eq_true rfl) (by omega) (C_m_gives ?_)
                                          refine aK_i ?_
                                          refine aw_ireturn dX7_forecast_116 rfl ?_
                                          refine XR.sameE h2 (by omega) ?_ ?_ ?_ ?_ ?_
                                          · first
                                              | exact hxs
                                              | exact hxs.up (by decide)
                                          · repeat (first | exact hM.ms | refine mss.up0 ?_ (by decide))
                                          · first
                                              | (rw [h7, aup_s]; done)
                                              | (rw [aup_s, aup_s, hu, if_pos (by omega)]; done)
                                              | (rw [aup_s, aup_s, hu]; rfl)
                                          · (repeat rw [aup_n (by omega)]); rw [h8, hM.2.2.2 3 (by decide) (by decide) (by decide) (by decide)]
                                          · (repeat rw [aup_n (by omega)]); rw [h9, hM.2.2.2 4 (by decide) (by decide) (by decide) (by decide)]
                              · first
                                  | (exfalso; omega)
                                  | skip
                                    refine aw_aload_n dX7_forecast_29 rfl ?_
                                    refine aw_iconst dX7_forecast_30 (by decide) ?_
                                    refine c_X7_72 rfl dX7_forecast_31 m_ob (Nat.le_of_ble_eq_true rfl) (by omega) (C_m_refuse ?_)
                                    refine aK_i ?_
                                    refine aw_ireturn dX7_forecast_34 rfl ?_
                                    first
                                      | (exfalso; omega)
                                      | (refine XR.sameE h ?_ ?_ ?_ ?_ ?_ ?_
                                         · first
                                             | rfl
                                             | omega
                                         · repeat (first | exact xs.rf | refine xs.up ?_ (by decide))
                                         · repeat (first | exact mss.rf | refine mss.up0 ?_ (by decide))
                                         · first
                                             | (simp [aup, hv2, hv3, hv4]; done)
                                             | (simp [aup, hv2, hv3, hv4]; omega)
                                         · simp [aup, hv2, hv3, hv4]
                                         · simp [aup, hv2, hv3, hv4])
                  · first
                      | (exfalso; omega)
                      | skip
                        refine aK_i ?_
                        refine aw_ifeq (tgt := 29) dX7_forecast_17 (by decide) (fun _ => ?_) (fun h => absurd h (by decide))
                        refine aw_aload_n dX7_forecast_29 rfl ?_
                        refine aw_iconst dX7_forecast_30 (by decide) ?_
                        refine c_X7_72 rfl dX7_forecast_31 m_ob (Nat.le_of_ble_eq_true rfl) (by omega) (C_m_refuse ?_)
                        refine aK_i ?_
                        refine aw_ireturn dX7_forecast_34 rfl ?_
                        first
                          | (exfalso; omega)
                          | (refine XR.sameE h ?_ ?_ ?_ ?_ ?_ ?_
                             · first
                                 | rfl
                                 | omega
                             · repeat (first | exact xs.rf | refine xs.up ?_ (by decide))
                             · repeat (first | exact mss.rf | refine mss.up0 ?_ (by decide))
                             · first
                                 | (simp [aup, hv2, hv3, hv4]; done)
                                 | (simp [aup, hv2, hv3, hv4]; omega)
                             · simp [aup, hv2, hv3, hv4]
                             · simp [aup, hv2, hv3, hv4])
            · first
                | (exfalso; omega)
                | skip
                  refine aK_i ?_
                  refine aw_ifeq (tgt := 29) dX7_forecast_5 (by decide) (fun _ => ?_) (fun h => absurd h (by decide))
                  refine aw_aload_n dX7_forecast_29 rfl ?_
                  refine aw_iconst dX7_forecast_30 (by decide) ?_
                  refine c_X7_72 rfl dX7_forecast_31 m_ob (Nat.le_of_ble_eq_true rfl) (by omega) (C_m_refuse ?_)
                  refine aK_i ?_
                  refine aw_ireturn dX7_forecast_34 rfl ?_
                  first
                    | (exfalso; omega)
                    | (refine XR.sameE h ?_ ?_ ?_ ?_ ?_ ?_
                       · first
                           | rfl
                           | omega
                       · repeat (first | exact xs.rf | refine xs.up ?_ (by decide))
                       · repeat (first | exact mss.rf | refine mss.up0 ?_ (by decide))
                       · first
                           | (simp [aup, hv2, hv3, hv4]; done)
                           | (simp [aup, hv2, hv3, hv4]; omega)
                       · simp [aup, hv2, hv3, hv4]
                       · simp [aup, hv2, hv3, hv4])
          · refine aw_aload dX0_forecast_86 rfl ?_
            refine c_X0_267 rfl dX0_forecast_88 H2.2.2.1.1 (Nat.le_of_ble_eq_true rfl) (by omega) (C_x_honey H2.2.2.1 H2.2.2.2.1 hTw.2.1 ?_)
            refine aK_i ?_
            refine aw_goto (tgt := 96) dX0_forecast_91 (by decide) ?_
            refine aw_ireturn dX0_forecast_96 rfl ?_
            refine ⟨_, rfl, ?_⟩
            refine AMet.go (L := [some (vR 0), some (vI a), some (vI b), some (vI c), none, none]) mok_X7_forecast (Nat.le_of_ble_eq_true rfl) rfl ?_
            refine aw_aload_n dX7_forecast_0 rfl ?_
            refine aw_iload_n dX7_forecast_1 rfl ?_
            refine c_X7_274 rfl dX7_forecast_2 m_ob (Nat.le_of_ble_eq_true rfl) (by omega) (C_m_isHive (fun hh => ?_) (fun hh => ?_))
            · first
                | (exfalso; omega)
                | skip
                  refine aK_i ?_
                  refine aw_ifeq (tgt := 29) dX7_forecast_5 (by decide) (fun h => absurd h (by decide)) (fun _ => ?_)
                  refine aw_iload_n dX7_forecast_8 rfl ?_
                  refine aw_i2l dX7_forecast_9 ?_
                  refine aw_lconst0 dX7_forecast_10 ?_
                  refine aw_ldc2 (x := 60) dX7_forecast_11 q1822 (by decide) ?_
                  refine c_X7_306 rfl dX7_forecast_14  (Nat.le_of_ble_eq_true rfl) (by omega) (C_m_isFrom (fun hfr => ?_) (fun hfr => ?_))
                  · first
                      | (exfalso; omega)
                      | skip
                        refine aK_i ?_
                        refine aw_ifeq (tgt := 29) dX7_forecast_17 (by decide) (fun h => absurd h (by decide)) (fun _ => ?_)
                        refine aw_iload_n dX7_forecast_20 rfl ?_
                        refine aw_iflt (tgt := 29) dX7_forecast_21 (by decide) (fun h21 => ?_) (fun h21 => ?_)
                        · first
                            | (exfalso; omega)
                            | skip
                              refine aw_aload_n dX7_forecast_29 rfl ?_
                              refine aw_iconst dX7_forecast_30 (by decide) ?_
                              refine c_X7_72 rfl dX7_forecast_31 m_ob (Nat.le_of_ble_eq_true rfl) (by omega) (C_m_refuse ?_)
                              refine aK_i ?_
                              refine aw_ireturn dX7_forecast_34 rfl ?_
                              first
                                | (exfalso; omega)
                                | (refine XR.sameE h ?_ ?_ ?_ ?_ ?_ ?_
                                   · first
                                       | rfl
                                       | omega
                                   · repeat (first | exact xs.rf | refine xs.up ?_ (by decide))
                                   · repeat (first | exact mss.rf | refine mss.up0 ?_ (by decide))
                                   · first
                                       | (simp [aup, hv2, hv3, hv4]; done)
                                       | (simp [aup, hv2, hv3, hv4]; omega)
                                   · simp [aup, hv2, hv3, hv4]
                                   · simp [aup, hv2, hv3, hv4])
                        · first
                            | (exfalso; omega)
                            | skip
                              refine aw_iload_n dX7_forecast_24 rfl ?_
                              refine aw_iconst dX7_forecast_25 (by decide) ?_
                              refine aw_icmple (tgt := 35) dX7_forecast_26 (by decide) (fun h26 => ?_) (fun h26 => ?_)
                              · first
                                  | (exfalso; omega)
                                  | skip
                                    refine aw_aload_n dX7_forecast_35 rfl ?_
                                    refine aw_iload_n dX7_forecast_36 rfl ?_
                                    refine c_X7_361 rfl dX7_forecast_37 m_ob (Nat.le_of_ble_eq_true rfl) (by omega) (C_m_tries (by omega) (fun ct2 t1 t2 => ?_))
                                    have hF2 : Fok ct2 := by
                                      have q := HF
                                      unfold Fok FC at q ⊢
                                      rw [t2 0 (by decide), t2 9 (by decide)]
                                      exact q
                                    have hd2 : dfr cm ct2 := ⟨fun b b0 b1 b9 => t2 b b1, fun i _ _ _ _ => by rw [t2 0 (by decide)]⟩
                                    refine aK_v ?_
                                    refine aw_iconst dX7_forecast_40 (by decide) ?_
                                    refine aw_istore4 dX7_forecast_41 (by decide) rfl ?_
                                    refine aw_iconst dX7_forecast_43 (by decide) ?_
                                    refine aw_istore5 dX7_forecast_44 (by decide) rfl ?_
                                    refine L_m_for (a := a) (w := b) (g := c) (by omega) (by omega) hti (fun i hi => cp_out hi) gh.1 (by omega) ⟨hqa.1, hqb⟩ hla (by omega) (fun ct3 hM et => ?_) b.toNat 0 ct2 (by omega) t1 hF2 hd2
                                    have e71 : ct3 1 7381 = tryR (cpR (64 + 198 * a) 7380 198 (cm 1)) (laK (cm 1) a) b.toNat (7380 + 1) := by rw [et]; rfl
                                    refine aw_aload_n dX7_forecast_79 rfl ?_
                                    refine aw_iload_n dX7_forecast_80 rfl ?_
                                    refine aw_ifne (tgt := 95) dX7_forecast_81 (by decide) (fun h81 => ?_) (fun h81 => ?_)
                                    · first
                                        | (exfalso; omega)
                                        | skip
                                          refine aw_iload_n dX7_forecast_95 rfl ?_
                                          refine aw_iconst dX7_forecast_96 (by decide) ?_
                                          refine aw_icmpne (tgt := 111) dX7_forecast_97 (by decide) (fun h97 => ?_) (fun h97 => ?_)
                                          · first
                                              | (exfalso; omega)
                                              | skip
                                                refine aw_iload dX7_forecast_111 rfl ?_
                                                refine c_X7_76 rfl dX7_forecast_113 m_ob (Nat.le_of_ble_eq_true rfl) (by omega) (C_m_gives ?_)
                                                refine aK_i ?_
                                                refine aw_ireturn dX7_forecast_116 rfl ?_
                                                refine XR.sameE h2 (by omega) ?_ ?_ ?_ ?_ ?_
                                                · first
                                                    | exact hxs
                                                    | exact hxs.up (by decide)
                                                · repeat (first | exact hM.ms | refine mss.up0 ?_ (by decide))
                                                · first
                                                    | (rw [h7, aup_s]; done)
                                                    | (rw [aup_s, aup_s, hu, if_pos (by omega)]; done)
                                                    | (rw [aup_s, aup_s, hu]; rfl)
                                                · (repeat rw [aup_n (by omega)]); rw [h8, hM.2.2.2 3 (by decide) (by decide) (by decide) (by decide)]
                                                · (repeat rw [aup_n (by omega)]); rw [h9, hM.2.2.2 4 (by decide) (by decide) (by decide) (by decide)]
                                          · first
                                              | (exfalso; omega)
                                              | skip
                                                refine aw_aload_n dX7_forecast_100 rfl ?_
                                                refine aw_sipush dX7_forecast_101 (by decide) ?_
                                                refine aw_iconst dX7_forecast_104 (by decide) ?_
                                                refine c_X7_283 rfl dX7_forecast_105 m_ob (Nat.le_of_ble_eq_true rfl) (by omega) (C_m_sumOf (n := cm 1 (64 + 198 * a)) (by rw [et]; exact hTw.1) gh.1 (by omega) (by rw [et]; exact hTw.2.1) ?_)
                                                refine aK_i ?_
                                                rw [et]
                                                refine aw_goto (tgt := 113) dX7_forecast_108 (by decide) ?_
                                                refine c_X7_76 rfl dX7_forecast_113 m_ob (Nat.le_of_ble_eq_true rfl) (by omega) (C_m_gives ?_)
                                                refine aK_i ?_
                                                refine aw_ireturn dX7_forecast_116 rfl ?_
                                                refine XR.sameE h2 (by omega) ?_ ?_ ?_ ?_ ?_
                                                · first
                                                    | exact hxs
                                                    | exact hxs.up (by decide)
                                                · repeat (first | exact hM.ms | refine mss.up0 ?_ (by decide))
                                                · first
                                                    | (rw [h7, aup_s]; done)
                                                    | (rw [aup_s, aup_s, hu, if_pos (by omega)]; done)
                                                    | (rw [aup_s, aup_s, hu]; rfl)
                                                · (repeat rw [aup_n (by omega)]); rw [h8, hM.2.2.2 3 (by decide) (by decide) (by decide) (by decide)]
                                                · (repeat rw [aup_n (by omega)]); rw [h9, hM.2.2.2 4 (by decide) (by decide) (by decide) (by decide)]
                                    · first
                                        | (exfalso; omega)
                                        | skip
                                          refine gm_7 rfl dX7_forecast_84 dX7_forecast_85 rfl ?_
                                          refine aw_sipush dX7_forecast_88 (by decide) ?_
                                          refine aw_iaload dX7_forecast_91 m_a1 (by omega) (by omega) ?_
                                          rw [e71]
                                          refine aw_goto (tgt := 113) dX7_forecast_92 (by decide) ?_
                                          refine c_X7_76 rfl dX7_forecast_113 m_ob (Nat.le_of_ble_eq_true rfl) (by omega) (C_m_gives ?_)
                                          refine aK_i ?_
                                          refine aw_ireturn dX7_forecast_116 rfl ?_
                                          refine XR.sameE h2 (by omega) ?_ ?_ ?_ ?_ ?_
                                          · first
                                              | exact hxs
                                              | exact hxs.up (by decide)
                                          · repeat (first | exact hM.ms | refine mss.up0 ?_ (by decide))
                                          · first
                                              | (rw [h7, aup_s]; done)
                                              | (rw [aup_s, aup_s, hu, if_pos (by omega)]; done)
                                              | (rw [aup_s, aup_s, hu]; rfl)
                                          · (repeat rw [aup_n (by omega)]); rw [h8, hM.2.2.2 3 (by decide) (by decide) (by decide) (by decide)]
                                          · (repeat rw [aup_n (by omega)]); rw [h9, hM.2.2.2 4 (by decide) (by decide) (by decide) (by decide)]
                              · first
                                  | (exfalso; omega)
                                  | skip
                                    refine aw_aload_n dX7_forecast_29 rfl ?_
                                    refine aw_iconst dX7_forecast_30 (by decide) ?_
                                    refine c_X7_72 rfl dX7_forecast_31 m_ob (Nat.le_of_ble_eq_true rfl) (by omega) (C_m_refuse ?_)
                                    refine aK_i ?_
                                    refine aw_ireturn dX7_forecast_34 rfl ?_
                                    first
                                      | (exfalso; omega)
                                      | (refine XR.sameE h ?_ ?_ ?_ ?_ ?_ ?_
                                         · first
                                             | rfl
                                             | omega
                                         · repeat (first | exact xs.rf | refine xs.up ?_ (by decide))
                                         · repeat (first | exact mss.rf | refine mss.up0 ?_ (by decide))
                                         · first
                                             | (simp [aup, hv2, hv3, hv4]; done)
                                             | (simp [aup, hv2, hv3, hv4]; omega)
                                         · simp [aup, hv2, hv3, hv4]
                                         · simp [aup, hv2, hv3, hv4])
                  · first
                      | (exfalso; omega)
                      | skip
                        refine aK_i ?_
                        refine aw_ifeq (tgt := 29) dX7_forecast_17 (by decide) (fun _ => ?_) (fun h => absurd h (by decide))
                        refine aw_aload_n dX7_forecast_29 rfl ?_
                        refine aw_iconst dX7_forecast_30 (by decide) ?_
                        refine c_X7_72 rfl dX7_forecast_31 m_ob (Nat.le_of_ble_eq_true rfl) (by omega) (C_m_refuse ?_)
                        refine aK_i ?_
                        refine aw_ireturn dX7_forecast_34 rfl ?_
                        first
                          | (exfalso; omega)
                          | (refine XR.sameE h ?_ ?_ ?_ ?_ ?_ ?_
                             · first
                                 | rfl
                                 | omega
                             · repeat (first | exact xs.rf | refine xs.up ?_ (by decide))
                             · repeat (first | exact mss.rf | refine mss.up0 ?_ (by decide))
                             · first
                                 | (simp [aup, hv2, hv3, hv4]; done)
                                 | (simp [aup, hv2, hv3, hv4]; omega)
                             · simp [aup, hv2, hv3, hv4]
                             · simp [aup, hv2, hv3, hv4])
            · first
                | (exfalso; omega)
                | skip
                  refine aK_i ?_
                  refine aw_ifeq (tgt := 29) dX7_forecast_5 (by decide) (fun _ => ?_) (fun h => absurd h (by decide))
                  refine aw_aload_n dX7_forecast_29 rfl ?_
                  refine aw_iconst dX7_forecast_30 (by decide) ?_
                  refine c_X7_72 rfl dX7_forecast_31 m_ob (Nat.le_of_ble_eq_true rfl) (by omega) (C_m_refuse ?_)
                  refine aK_i ?_
                  refine aw_ireturn dX7_forecast_34 rfl ?_
                  first
                    | (exfalso; omega)
                    | (refine XR.sameE h ?_ ?_ ?_ ?_ ?_ ?_
                       · first
                           | rfl
                           | omega
                       · repeat (first | exact xs.rf | refine xs.up ?_ (by decide))
                       · repeat (first | exact mss.rf | refine mss.up0 ?_ (by decide))
                       · first
                           | (simp [aup, hv2, hv3, hv4]; done)
                           | (simp [aup, hv2, hv3, hv4]; omega)
                       · simp [aup, hv2, hv3, hv4]
                       · simp [aup, hv2, hv3, hv4])
        · refine aw_aload dX0_forecast_73 rfl ?_
          refine g_X0_264_9 rfl dX0_forecast_75 H2.2.2.1.1 ?_
          rw [H2.2.2.2.2.1.1]
          refine aw_goto (tgt := 96) dX0_forecast_78 (by decide) ?_
          refine aw_ireturn dX0_forecast_96 rfl ?_
          refine ⟨_, rfl, ?_⟩
          refine AMet.go (L := [some (vR 0), some (vI a), some (vI b), some (vI c), none, none]) mok_X7_forecast (Nat.le_of_ble_eq_true rfl) rfl ?_
          refine aw_aload_n dX7_forecast_0 rfl ?_
          refine aw_iload_n dX7_forecast_1 rfl ?_
          refine c_X7_274 rfl dX7_forecast_2 m_ob (Nat.le_of_ble_eq_true rfl) (by omega) (C_m_isHive (fun hh => ?_) (fun hh => ?_))
          · first
              | (exfalso; omega)
              | skip
                refine aK_i ?_
                refine aw_ifeq (tgt := 29) dX7_forecast_5 (by decide) (fun h => absurd h (by decide)) (fun _ => ?_)
                refine aw_iload_n dX7_forecast_8 rfl ?_
                refine aw_i2l dX7_forecast_9 ?_
                refine aw_lconst0 dX7_forecast_10 ?_
                refine aw_ldc2 (x := 60) dX7_forecast_11 q1822 (by decide) ?_
                refine c_X7_306 rfl dX7_forecast_14  (Nat.le_of_ble_eq_true rfl) (by omega) (C_m_isFrom (fun hfr => ?_) (fun hfr => ?_))
                · first
                    | (exfalso; omega)
                    | skip
                      refine aK_i ?_
                      refine aw_ifeq (tgt := 29) dX7_forecast_17 (by decide) (fun h => absurd h (by decide)) (fun _ => ?_)
                      refine aw_iload_n dX7_forecast_20 rfl ?_
                      refine aw_iflt (tgt := 29) dX7_forecast_21 (by decide) (fun h21 => ?_) (fun h21 => ?_)
                      · first
                          | (exfalso; omega)
                          | skip
                            refine aw_aload_n dX7_forecast_29 rfl ?_
                            refine aw_iconst dX7_forecast_30 (by decide) ?_
                            refine c_X7_72 rfl dX7_forecast_31 m_ob (Nat.le_of_ble_eq_true rfl) (by omega) (C_m_refuse ?_)
                            refine aK_i ?_
                            refine aw_ireturn dX7_forecast_34 rfl ?_
                            first
                              | (exfalso; omega)
                              | (refine XR.sameE h ?_ ?_ ?_ ?_ ?_ ?_
                                 · first
                                     | rfl
                                     | omega
                                 · repeat (first | exact xs.rf | refine xs.up ?_ (by decide))
                                 · repeat (first | exact mss.rf | refine mss.up0 ?_ (by decide))
                                 · first
                                     | (simp [aup, hv2, hv3, hv4]; done)
                                     | (simp [aup, hv2, hv3, hv4]; omega)
                                 · simp [aup, hv2, hv3, hv4]
                                 · simp [aup, hv2, hv3, hv4])
                      · first
                          | (exfalso; omega)
                          | skip
                            refine aw_iload_n dX7_forecast_24 rfl ?_
                            refine aw_iconst dX7_forecast_25 (by decide) ?_
                            refine aw_icmple (tgt := 35) dX7_forecast_26 (by decide) (fun h26 => ?_) (fun h26 => ?_)
                            · first
                                | (exfalso; omega)
                                | skip
                                  refine aw_aload_n dX7_forecast_35 rfl ?_
                                  refine aw_iload_n dX7_forecast_36 rfl ?_
                                  refine c_X7_361 rfl dX7_forecast_37 m_ob (Nat.le_of_ble_eq_true rfl) (by omega) (C_m_tries (by omega) (fun ct2 t1 t2 => ?_))
                                  have hF2 : Fok ct2 := by
                                    have q := HF
                                    unfold Fok FC at q ⊢
                                    rw [t2 0 (by decide), t2 9 (by decide)]
                                    exact q
                                  have hd2 : dfr cm ct2 := ⟨fun b b0 b1 b9 => t2 b b1, fun i _ _ _ _ => by rw [t2 0 (by decide)]⟩
                                  refine aK_v ?_
                                  refine aw_iconst dX7_forecast_40 (by decide) ?_
                                  refine aw_istore4 dX7_forecast_41 (by decide) rfl ?_
                                  refine aw_iconst dX7_forecast_43 (by decide) ?_
                                  refine aw_istore5 dX7_forecast_44 (by decide) rfl ?_
                                  refine L_m_for (a := a) (w := b) (g := c) (by omega) (by omega) hti (fun i hi => cp_out hi) gh.1 (by omega) ⟨hqa.1, hqb⟩ hla (by omega) (fun ct3 hM et => ?_) b.toNat 0 ct2 (by omega) t1 hF2 hd2
                                  have e71 : ct3 1 7381 = tryR (cpR (64 + 198 * a) 7380 198 (cm 1)) (laK (cm 1) a) b.toNat (7380 + 1) := by rw [et]; rfl
                                  refine aw_aload_n dX7_forecast_79 rfl ?_
                                  refine aw_iload_n dX7_forecast_80 rfl ?_
                                  refine aw_ifne (tgt := 95) dX7_forecast_81 (by decide) (fun h81 => ?_) (fun h81 => ?_)
                                  · first
                                      | (exfalso; omega)
                                      | skip
                                        refine aw_iload_n dX7_forecast_95 rfl ?_
                                        refine aw_iconst dX7_forecast_96 (by decide) ?_
                                        refine aw_icmpne (tgt := 111) dX7_forecast_97 (by decide) (fun h97 => ?_) (fun h97 => ?_)
                                        · first
                                            | (exfalso; omega)
                                            | skip
                                              refine aw_iload dX7_forecast_111 rfl ?_
                                              refine c_X7_76 rfl dX7_forecast_113 m_ob (Nat.le_of_ble_eq_true rfl) (by omega) (C_m_gives ?_)
                                              refine aK_i ?_
                                              refine aw_ireturn dX7_forecast_116 rfl ?_
                                              refine XR.sameE h2 (by omega) ?_ ?_ ?_ ?_ ?_
                                              · first
                                                  | exact hxs
                                                  | exact hxs.up (by decide)
                                              · repeat (first | exact hM.ms | refine mss.up0 ?_ (by decide))
                                              · first
                                                  | (rw [h7, aup_s]; done)
                                                  | (rw [aup_s, aup_s, hu, if_pos (by omega)]; done)
                                                  | (rw [aup_s, aup_s, hu]; rfl)
                                              · (repeat rw [aup_n (by omega)]); rw [h8, hM.2.2.2 3 (by decide) (by decide) (by decide) (by decide)]
                                              · (repeat rw [aup_n (by omega)]); rw [h9, hM.2.2.2 4 (by decide) (by decide) (by decide) (by decide)]
                                        · first
                                            | (exfalso; omega)
                                            | skip
                                              refine aw_aload_n dX7_forecast_100 rfl ?_
                                              refine aw_sipush dX7_forecast_101 (by decide) ?_
                                              refine aw_iconst dX7_forecast_104 (by decide) ?_
                                              refine c_X7_283 rfl dX7_forecast_105 m_ob (Nat.le_of_ble_eq_true rfl) (by omega) (C_m_sumOf (n := cm 1 (64 + 198 * a)) (by rw [et]; exact hTw.1) gh.1 (by omega) (by rw [et]; exact hTw.2.1) ?_)
                                              refine aK_i ?_
                                              rw [et]
                                              refine aw_goto (tgt := 113) dX7_forecast_108 (by decide) ?_
                                              refine c_X7_76 rfl dX7_forecast_113 m_ob (Nat.le_of_ble_eq_true rfl) (by omega) (C_m_gives ?_)
                                              refine aK_i ?_
                                              refine aw_ireturn dX7_forecast_116 rfl ?_
                                              refine XR.sameE h2 (by omega) ?_ ?_ ?_ ?_ ?_
                                              · first
                                                  | exact hxs
                                                  | exact hxs.up (by decide)
                                              · repeat (first | exact hM.ms | refine mss.up0 ?_ (by decide))
                                              · first
                                                  | (rw [h7, aup_s]; done)
                                                  | (rw [aup_s, aup_s, hu, if_pos (by omega)]; done)
                                                  | (rw [aup_s, aup_s, hu]; rfl)
                                              · (repeat rw [aup_n (by omega)]); rw [h8, hM.2.2.2 3 (by decide) (by decide) (by decide) (by decide)]
                                              · (repeat rw [aup_n (by omega)]); rw [h9, hM.2.2.2 4 (by decide) (by decide) (by decide) (by decide)]
                                  · first
                                      | (exfalso; omega)
                                      | skip
                                        refine gm_7 rfl dX7_forecast_84 dX7_forecast_85 rfl ?_
                                        refine aw_sipush dX7_forecast_88 (by decide) ?_
                                        refine aw_iaload dX7_forecast_91 m_a1 (by omega) (by omega) ?_
                                        rw [e71]
                                        refine aw_goto (tgt := 113) dX7_forecast_92 (by decide) ?_
                                        refine c_X7_76 rfl dX7_forecast_113 m_ob (Nat.le_of_ble_eq_true rfl) (by omega) (C_m_gives ?_)
                                        refine aK_i ?_
                                        refine aw_ireturn dX7_forecast_116 rfl ?_
                                        refine XR.sameE h2 (by omega) ?_ ?_ ?_ ?_ ?_
                                        · first
                                            | exact hxs
                                            | exact hxs.up (by decide)
                                        · repeat (first | exact hM.ms | refine mss.up0 ?_ (by decide))
                                        · first
                                            | (rw [h7, aup_s]; done)
                                            | (rw [aup_s, aup_s, hu, if_pos (by omega)]; done)
                                            | (rw [aup_s, aup_s, hu]; rfl)
                                        · (repeat rw [aup_n (by omega)]); rw [h8, hM.2.2.2 3 (by decide) (by decide) (by decide) (by decide)]
                                        · (repeat rw [aup_n (by omega)]); rw [h9, hM.2.2.2 4 (by decide) (by decide) (by decide) (by decide)]
                            · first
                                | (exfalso; omega)
                                | skip
                                  refine aw_aload_n dX7_forecast_29 rfl ?_
                                  refine aw_iconst dX7_forecast_30 (by decide) ?_
                                  refine c_X7_72 rfl dX7_forecast_31 m_ob (Nat.le_of_ble_eq_true rfl) (by omega) (C_m_refuse ?_)
                                  refine aK_i ?_
                                  refine aw_ireturn dX7_forecast_34 rfl ?_
                                  first
                                    | (exfalso; omega)
                                    | (refine XR.sameE h ?_ ?_ ?_ ?_ ?_ ?_
                                       · first
                                           | rfl
                                           | omega
                                       · repeat (first | exact xs.rf | refine xs.up ?_ (by decide))
                                       · repeat (first | exact mss.rf | refine mss.up0 ?_ (by decide))
                                       · first
                                           | (simp [aup, hv2, hv3, hv4]; done)
                                           | (simp [aup, hv2, hv3, hv4]; omega)
                                       · simp [aup, hv2, hv3, hv4]
                                       · simp [aup, hv2, hv3, hv4])
                · first
                    | (exfalso; omega)
                    | skip
                      refine aK_i ?_
                      refine aw_ifeq (tgt := 29) dX7_forecast_17 (by decide) (fun _ => ?_) (fun h => absurd h (by decide))
                      refine aw_aload_n dX7_forecast_29 rfl ?_
                      refine aw_iconst dX7_forecast_30 (by decide) ?_
                      refine c_X7_72 rfl dX7_forecast_31 m_ob (Nat.le_of_ble_eq_true rfl) (by omega) (C_m_refuse ?_)
                      refine aK_i ?_
                      refine aw_ireturn dX7_forecast_34 rfl ?_
                      first
                        | (exfalso; omega)
                        | (refine XR.sameE h ?_ ?_ ?_ ?_ ?_ ?_
                           · first
                               | rfl
                               | omega
                           · repeat (first | exact xs.rf | refine xs.up ?_ (by decide))
                           · repeat (first | exact mss.rf | refine mss.up0 ?_ (by decide))
                           · first
                               | (simp [aup, hv2, hv3, hv4]; done)
                               | (simp [aup, hv2, hv3, hv4]; omega)
                           · simp [aup, hv2, hv3, hv4]
                           · simp [aup, hv2, hv3, hv4])
          · first
              | (exfalso; omega)
              | skip
                refine aK_i ?_
                refine aw_ifeq (tgt := 29) dX7_forecast_5 (by decide) (fun _ => ?_) (fun h => absurd h (by decide))
                refine aw_aload_n dX7_forecast_29 rfl ?_
                refine aw_iconst dX7_forecast_30 (by decide) ?_
                refine c_X7_72 rfl dX7_forecast_31 m_ob (Nat.le_of_ble_eq_true rfl) (by omega) (C_m_refuse ?_)
                refine aK_i ?_
                refine aw_ireturn dX7_forecast_34 rfl ?_
                first
                  | (exfalso; omega)
                  | (refine XR.sameE h ?_ ?_ ?_ ?_ ?_ ?_
                     · first
                         | rfl
                         | omega
                     · repeat (first | exact xs.rf | refine xs.up ?_ (by decide))
                     · repeat (first | exact mss.rf | refine mss.up0 ?_ (by decide))
                     · first
                         | (simp [aup, hv2, hv3, hv4]; done)
                         | (simp [aup, hv2, hv3, hv4]; omega)
                     · simp [aup, hv2, hv3, hv4]
                     · simp [aup, hv2, hv3, hv4])
      · refine aK_i ?_
        refine aw_ifeq (tgt := 37) dX0_forecast_30 (by decide) (fun _ => ?_) (fun h => absurd h (by decide))
        refine aw_iconst dX0_forecast_37 (by decide) ?_
        refine p_X0_73_0 rfl dX0_forecast_38 hR.o0 ?_
        refine aw_aload_n dX0_forecast_41 rfl ?_
        refine g_X0_73_0 rfl dX0_forecast_42 hR.o0 ?_
        repeat (first | rw [aup_s] | rw [aup_n (by omega)])
        refine aw_ifle (tgt := 50) dX0_forecast_45 (by decide) (fun h => absurd h (by decide)) (fun _ => ?_)
        refine aw_iconst dX0_forecast_48 (by decide) ?_
        refine aw_ireturn dX0_forecast_49 rfl ?_
        refine ⟨_, rfl, ?_⟩
        refine AMet.go (L := [some (vR 0), some (vI a), some (vI b), some (vI c), none, none]) mok_X7_forecast (Nat.le_of_ble_eq_true rfl) rfl ?_
        refine aw_aload_n dX7_forecast_0 rfl ?_
        refine aw_iload_n dX7_forecast_1 rfl ?_
        refine c_X7_274 rfl dX7_forecast_2 m_ob (Nat.le_of_ble_eq_true rfl) (by omega) (C_m_isHive (fun hh => ?_) (fun hh => ?_))
        · first
            | (exfalso; omega)
            | skip
              refine aK_i ?_
              refine aw_ifeq (tgt := 29) dX7_forecast_5 (by decide) (fun h => absurd h (by decide)) (fun _ => ?_)
              refine aw_iload_n dX7_forecast_8 rfl ?_
              refine aw_i2l dX7_forecast_9 ?_
              refine aw_lconst0 dX7_forecast_10 ?_
              refine aw_ldc2 (x := 60) dX7_forecast_11 q1822 (by decide) ?_
              refine c_X7_306 rfl dX7_forecast_14  (Nat.le_of_ble_eq_true rfl) (by omega) (C_m_isFrom (fun hfr => ?_) (fun hfr => ?_))
              · first
                  | (exfalso; omega)
                  | skip
                    refine aK_i ?_
                    refine aw_ifeq (tgt := 29) dX7_forecast_17 (by decide) (fun h => absurd h (by decide)) (fun _ => ?_)
                    refine aw_iload_n dX7_forecast_20 rfl ?_
                    refine aw_iflt (tgt := 29) dX7_forecast_21 (by decide) (fun h21 => ?_) (fun h21 => ?_)
                    · first
                        | (exfalso; omega)
                        | skip
                          refine aw_aload_n dX7_forecast_29 rfl ?_
                          refine aw_iconst dX7_forecast_30 (by decide) ?_
                          refine c_X7_72 rfl dX7_forecast_31 m_ob (Nat.le_of_ble_eq_true rfl) (by omega) (C_m_refuse ?_)
                          refine aK_i ?_
                          refine aw_ireturn dX7_forecast_34 rfl ?_
                          first
                            | (exfalso; omega)
                            | (refine XR.sameE h ?_ ?_ ?_ ?_ ?_ ?_
                               · first
                                   | rfl
                                   | omega
                               · repeat (first | exact xs.rf | refine xs.up ?_ (by decide))
                               · repeat (first | exact mss.rf | refine mss.up0 ?_ (by decide))
                               · first
                                   | (simp [aup, hv2, hv3, hv4]; done)
                                   | (simp [aup, hv2, hv3, hv4]; omega)
                               · simp [aup, hv2, hv3, hv4]
                               · simp [aup, hv2, hv3, hv4])
                    · first
                        | (exfalso; omega)
                        | skip
                          refine aw_iload_n dX7_forecast_24 rfl ?_
                          refine aw_iconst dX7_forecast_25 (by decide) ?_
                          refine aw_icmple (tgt := 35) dX7_forecast_26 (by decide) (fun h26 => ?_) (fun h26 => ?_)
                          · first
                              | (exfalso; omega)
                              | skip
                                refine aw_aload_n dX7_forecast_35 rfl ?_
                                refine aw_iload_n dX7_forecast_36 rfl ?_
                                refine c_X7_361 rfl dX7_forecast_37 m_ob (Nat.le_of_ble_eq_true rfl) (by omega) (C_m_tries (by omega) (fun ct2 t1 t2 => ?_))
                                have hF2 : Fok ct2 := by
                                  have q := HF
                                  unfold Fok FC at q ⊢
                                  rw [t2 0 (by decide), t2 9 (by decide)]
                                  exact q
                                have hd2 : dfr cm ct2 := ⟨fun b b0 b1 b9 => t2 b b1, fun i _ _ _ _ => by rw [t2 0 (by decide)]⟩
                                refine aK_v ?_
                                refine aw_iconst dX7_forecast_40 (by decide) ?_
                                refine aw_istore4 dX7_forecast_41 (by decide) rfl ?_
                                refine aw_iconst dX7_forecast_43 (by decide) ?_
                                refine aw_istore5 dX7_forecast_44 (by decide) rfl ?_
                                refine L_m_for (a := a) (w := b) (g := c) (by omega) (by omega) hti (fun i hi => cp_out hi) gh.1 (by omega) ⟨hqa.1, hqb⟩ hla (by omega) (fun ct3 hM et => ?_) b.toNat 0 ct2 (by omega) t1 hF2 hd2
                                have e71 : ct3 1 7381 = tryR (cpR (64 + 198 * a) 7380 198 (cm 1)) (laK (cm 1) a) b.toNat (7380 + 1) := by rw [et]; rfl
                                refine aw_aload_n dX7_forecast_79 rfl ?_
                                refine aw_iload_n dX7_forecast_80 rfl ?_
                                refine aw_ifne (tgt := 95) dX7_forecast_81 (by decide) (fun h81 => ?_) (fun h81 => ?_)
                                · first
                                    | (exfalso; omega)
                                    | skip
                                      refine aw_iload_n dX7_forecast_95 rfl ?_
                                      refine aw_iconst dX7_forecast_96 (by decide) ?_
                                      refine aw_icmpne (tgt := 111) dX7_forecast_97 (by decide) (fun h97 => ?_) (fun h97 => ?_)
                                      · first
                                          | (exfalso; omega)
                                          | skip
                                            refine aw_iload dX7_forecast_111 rfl ?_
                                            refine c_X7_76 rfl dX7_forecast_113 m_ob (Nat.le_of_ble_eq_true rfl) (by omega) (C_m_gives ?_)
                                            refine aK_i ?_
                                            refine aw_ireturn dX7_forecast_116 rfl ?_
                                            refine XR.sameE h2 (by omega) ?_ ?_ ?_ ?_ ?_
                                            · first
                                                | exact hxs
                                                | exact hxs.up (by decide)
                                            · repeat (first | exact hM.ms | refine mss.up0 ?_ (by decide))
                                            · first
                                                | (rw [h7, aup_s]; done)
                                                | (rw [aup_s, aup_s, hu, if_pos (by omega)]; done)
                                                | (rw [aup_s, aup_s, hu]; rfl)
                                            · (repeat rw [aup_n (by omega)]); rw [h8, hM.2.2.2 3 (by decide) (by decide) (by decide) (by decide)]
                                            · (repeat rw [aup_n (by omega)]); rw [h9, hM.2.2.2 4 (by decide) (by decide) (by decide) (by decide)]
                                      · first
                                          | (exfalso; omega)
                                          | skip
                                            refine aw_aload_n dX7_forecast_100 rfl ?_
                                            refine aw_sipush dX7_forecast_101 (by decide) ?_
                                            refine aw_iconst dX7_forecast_104 (by decide) ?_
                                            refine c_X7_283 rfl dX7_forecast_105 m_ob (Nat.le_of_ble_eq_true rfl) (by omega) (C_m_sumOf (n := cm 1 (64 + 198 * a)) (by rw [et]; exact hTw.1) gh.1 (by omega) (by rw [et]; exact hTw.2.1) ?_)
                                            refine aK_i ?_
                                            rw [et]
                                            refine aw_goto (tgt := 113) dX7_forecast_108 (by decide) ?_
                                            refine c_X7_76 rfl dX7_forecast_113 m_ob (Nat.le_of_ble_eq_true rfl) (by omega) (C_m_gives ?_)
                                            refine aK_i ?_
                                            refine aw_ireturn dX7_forecast_116 rfl ?_
                                            refine XR.sameE h2 (by omega) ?_ ?_ ?_ ?_ ?_
                                            · first
                                                | exact hxs
                                                | exact hxs.up (by decide)
                                            · repeat (first | exact hM.ms | refine mss.up0 ?_ (by decide))
                                            · first
                                                | (rw [h7, aup_s]; done)
                                                | (rw [aup_s, aup_s, hu, if_pos (by omega)]; done)
                                                | (rw [aup_s, aup_s, hu]; rfl)
                                            · (repeat rw [aup_n (by omega)]); rw [h8, hM.2.2.2 3 (by decide) (by decide) (by decide) (by decide)]
                                            · (repeat rw [aup_n (by omega)]); rw [h9, hM.2.2.2 4 (by decide) (by decide) (by decide) (by decide)]
                                · first
                                    | (exfalso; omega)
                                    | skip
                                      refine gm_7 rfl dX7_forecast_84 dX7_forecast_85 rfl ?_
                                      refine aw_sipush dX7_forecast_88 (by decide) ?_
                                      refine aw_iaload dX7_forecast_91 m_a1 (by omega) (by omega) ?_
                                      rw [e71]
                                      refine aw_goto (tgt := 113) dX7_forecast_92 (by decide) ?_
                                      refine c_X7_76 rfl dX7_forecast_113 m_ob (Nat.le_of_ble_eq_true rfl) (by omega) (C_m_gives ?_)
                                      refine aK_i ?_
                                      refine aw_ireturn dX7_forecast_116 rfl ?_
                                      refine XR.sameE h2 (by omega) ?_ ?_ ?_ ?_ ?_
                                      · first
                                          | exact hxs
                                          | exact hxs.up (by decide)
                                      · repeat (first | exact hM.ms | refine mss.up0 ?_ (by decide))
                                      · first
                                          | (rw [h7, aup_s]; done)
                                          | (rw [aup_s, aup_s, hu, if_pos (by omega)]; done)
                                          | (rw [aup_s, aup_s, hu]; rfl)
                                      · (repeat rw [aup_n (by omega)]); rw [h8, hM.2.2.2 3 (by decide) (by decide) (by decide) (by decide)]
                                      · (repeat rw [aup_n (by omega)]); rw [h9, hM.2.2.2 4 (by decide) (by decide) (by decide) (by decide)]
                          · first
                              | (exfalso; omega)
                              | skip
                                refine aw_aload_n dX7_forecast_29 rfl ?_
                                refine aw_iconst dX7_forecast_30 (by decide) ?_
                                refine c_X7_72 rfl dX7_forecast_31 m_ob (Nat.le_of_ble_eq_true rfl) (by omega) (C_m_refuse ?_)
                                refine aK_i ?_
                                refine aw_ireturn dX7_forecast_34 rfl ?_
                                first
                                  | (exfalso; omega)
                                  | (refine XR.sameE h ?_ ?_ ?_ ?_ ?_ ?_
                                     · first
                                         | rfl
                                         | omega
                                     · repeat (first | exact xs.rf | refine xs.up ?_ (by decide))
                                     · repeat (first | exact mss.rf | refine mss.up0 ?_ (by decide))
                                     · first
                                         | (simp [aup, hv2, hv3, hv4]; done)
                                         | (simp [aup, hv2, hv3, hv4]; omega)
                                     · simp [aup, hv2, hv3, hv4]
                                     · simp [aup, hv2, hv3, hv4])
              · first
                  | (exfalso; omega)
                  | skip
                    refine aK_i ?_
                    refine aw_ifeq (tgt := 29) dX7_forecast_17 (by decide) (fun _ => ?_) (fun h => absurd h (by decide))
                    refine aw_aload_n dX7_forecast_29 rfl ?_
                    refine aw_iconst dX7_forecast_30 (by decide) ?_
                    refine c_X7_72 rfl dX7_forecast_31 m_ob (Nat.le_of_ble_eq_true rfl) (by omega) (C_m_refuse ?_)
                    refine aK_i ?_
                    refine aw_ireturn dX7_forecast_34 rfl ?_
                    first
                      | (exfalso; omega)
                      | (refine XR.sameE h ?_ ?_ ?_ ?_ ?_ ?_
                         · first
                             | rfl
                             | omega
                         · repeat (first | exact xs.rf | refine xs.up ?_ (by decide))
                         · repeat (first | exact mss.rf | refine mss.up0 ?_ (by decide))
                         · first
                             | (simp [aup, hv2, hv3, hv4]; done)
                             | (simp [aup, hv2, hv3, hv4]; omega)
                         · simp [aup, hv2, hv3, hv4]
                         · simp [aup, hv2, hv3, hv4])
        · first
            | (exfalso; omega)
            | skip
              refine aK_i ?_
              refine aw_ifeq (tgt := 29) dX7_forecast_5 (by decide) (fun _ => ?_) (fun h => absurd h (by decide))
              refine aw_aload_n dX7_forecast_29 rfl ?_
              refine aw_iconst dX7_forecast_30 (by decide) ?_
              refine c_X7_72 rfl dX7_forecast_31 m_ob (Nat.le_of_ble_eq_true rfl) (by omega) (C_m_refuse ?_)
              refine aK_i ?_
              refine aw_ireturn dX7_forecast_34 rfl ?_
              first
                | (exfalso; omega)
                | (refine XR.sameE h ?_ ?_ ?_ ?_ ?_ ?_
                   · first
                       | rfl
                       | omega
                   · repeat (first | exact xs.rf | refine xs.up ?_ (by decide))
                   · repeat (first | exact mss.rf | refine mss.up0 ?_ (by decide))
                   · first
                       | (simp [aup, hv2, hv3, hv4]; done)
                       | (simp [aup, hv2, hv3, hv4]; omega)
                   · simp [aup, hv2, hv3, hv4]
                   · simp [aup, hv2, hv3, hv4])
    · refine aK_i ?_
      refine aw_ifeq (tgt := 37) dX0_forecast_18 (by decide) (fun _ => ?_) (fun h => absurd h (by decide))
      refine aw_iconst dX0_forecast_37 (by decide) ?_
      refine p_X0_73_0 rfl dX0_forecast_38 hR.o0 ?_
      refine aw_aload_n dX0_forecast_41 rfl ?_
      refine g_X0_73_0 rfl dX0_forecast_42 hR.o0 ?_
      repeat (first | rw [aup_s] | rw [aup_n (by omega)])
      refine aw_ifle (tgt := 50) dX0_forecast_45 (by decide) (fun h => absurd h (by decide)) (fun _ => ?_)
      refine aw_iconst dX0_forecast_48 (by decide) ?_
      refine aw_ireturn dX0_forecast_49 rfl ?_
      refine ⟨_, rfl, ?_⟩
      refine AMet.go (L := [some (vR 0), some (vI a), some (vI b), some (vI c), none, none]) mok_X7_forecast (Nat.le_of_ble_eq_true rfl) rfl ?_
      refine aw_aload_n dX7_forecast_0 rfl ?_
      refine aw_iload_n dX7_forecast_1 rfl ?_
      refine c_X7_274 rfl dX7_forecast_2 m_ob (Nat.le_of_ble_eq_true rfl) (by omega) (C_m_isHive (fun hh => ?_) (fun hh => ?_))
      · first
          | (exfalso; omega)
          | skip
            refine aK_i ?_
            refine aw_ifeq (tgt := 29) dX7_forecast_5 (by decide) (fun h => absurd h (by decide)) (fun _ => ?_)
            refine aw_iload_n dX7_forecast_8 rfl ?_
            refine aw_i2l dX7_forecast_9 ?_
            refine aw_lconst0 dX7_forecast_10 ?_
            refine aw_ldc2 (x := 60) dX7_forecast_11 q1822 (by decide) ?_
            refine c_X7_306 rfl dX7_forecast_14  (Nat.le_of_ble_eq_true rfl) (by omega) (C_m_isFrom (fun hfr => ?_) (fun hfr => ?_))
            · first
                | (exfalso; omega)
                | skip
                  refine aK_i ?_
                  refine aw_ifeq (tgt := 29) dX7_forecast_17 (by decide) (fun h => absurd h (by decide)) (fun _ => ?_)
                  refine aw_iload_n dX7_forecast_20 rfl ?_
                  refine aw_iflt (tgt := 29) dX7_forecast_21 (by decide) (fun h21 => ?_) (fun h21 => ?_)
                  · first
                      | (exfalso; omega)
                      | skip
                        refine aw_aload_n dX7_forecast_29 rfl ?_
                        refine aw_iconst dX7_forecast_30 (by decide) ?_
                        refine c_X7_72 rfl dX7_forecast_31 m_ob (Nat.le_of_ble_eq_true rfl) (by omega) (C_m_refuse ?_)
                        refine aK_i ?_
                        refine aw_ireturn dX7_forecast_34 rfl ?_
                        first
                          | (exfalso; omega)
                          | (refine XR.sameE h ?_ ?_ ?_ ?_ ?_ ?_
                             · first
                                 | rfl
                                 | omega
                             · repeat (first | exact xs.rf | refine xs.up ?_ (by decide))
                             · repeat (first | exact mss.rf | refine mss.up0 ?_ (by decide))
                             · first
                                 | (simp [aup, hv2, hv3, hv4]; done)
                                 | (simp [aup, hv2, hv3, hv4]; omega)
                             · simp [aup, hv2, hv3, hv4]
                             · simp [aup, hv2, hv3, hv4])
                  · first
                      | (exfalso; omega)
                      | skip
                        refine aw_iload_n dX7_forecast_24 rfl ?_
                        refine aw_iconst dX7_forecast_25 (by decide) ?_
                        refine aw_icmple (tgt := 35) dX7_forecast_26 (by decide) (fun h26 => ?_) (fun h26 => ?_)
                        · first
                            | (exfalso; omega)
                            | skip
                              refine aw_aload_n dX7_forecast_35 rfl ?_
                              refine aw_iload_n dX7_forecast_36 rfl ?_
                              refine c_X7_361 rfl dX7_forecast_37 m_ob (Nat.le_of_ble_eq_true rfl) (by omega) (C_m_tries (by omega) (fun ct2 t1 t2 => ?_))
                              have hF2 : Fok ct2 := by
                                have q := HF
                                unfold Fok FC at q ⊢
                                rw [t2 0 (by decide), t2 9 (by decide)]
                                exact q
                              have hd2 : dfr cm ct2 := ⟨fun b b0 b1 b9 => t2 b b1, fun i _ _ _ _ => by rw [t2 0 (by decide)]⟩
                              refine aK_v ?_
                              refine aw_iconst dX7_forecast_40 (by decide) ?_
                              refine aw_istore4 dX7_forecast_41 (by decide) rfl ?_
                              refine aw_iconst dX7_forecast_43 (by decide) ?_
                              refine aw_istore5 dX7_forecast_44 (by decide) rfl ?_
                              refine L_m_for (a := a) (w := b) (g := c) (by omega) (by omega) hti (fun i hi => cp_out hi) gh.1 (by omega) ⟨hqa.1, hqb⟩ hla (by omega) (fun ct3 hM et => ?_) b.toNat 0 ct2 (by omega) t1 hF2 hd2
                              have e71 : ct3 1 7381 = tryR (cpR (64 + 198 * a) 7380 198 (cm 1)) (laK (cm 1) a) b.toNat (7380 + 1) := by rw [et]; rfl
                              refine aw_aload_n dX7_forecast_79 rfl ?_
                              refine aw_iload_n dX7_forecast_80 rfl ?_
                              refine aw_ifne (tgt := 95) dX7_forecast_81 (by decide) (fun h81 => ?_) (fun h81 => ?_)
                              · first
                                  | (exfalso; omega)
                                  | skip
                                    refine aw_iload_n dX7_forecast_95 rfl ?_
                                    refine aw_iconst dX7_forecast_96 (by decide) ?_
                                    refine aw_icmpne (tgt := 111) dX7_forecast_97 (by decide) (fun h97 => ?_) (fun h97 => ?_)
                                    · first
                                        | (exfalso; omega)
                                        | skip
                                          refine aw_iload dX7_forecast_111 rfl ?_
                                          refine c_X7_76 rfl dX7_forecast_113 m_ob (Nat.le_of_ble_eq_true rfl) (by omega) (C_m_gives ?_)
                                          refine aK_i ?_
                                          refine aw_ireturn dX7_forecast_116 rfl ?_
                                          refine XR.sameE h2 (by omega) ?_ ?_ ?_ ?_ ?_
                                          · first
                                              | exact hxs
                                              | exact hxs.up (by decide)
                                          · repeat (first | exact hM.ms | refine mss.up0 ?_ (by decide))
                                          · first
                                              | (rw [h7, aup_s]; done)
                                              | (rw [aup_s, aup_s, hu, if_pos (by omega)]; done)
                                              | (rw [aup_s, aup_s, hu]; rfl)
                                          · (repeat rw [aup_n (by omega)]); rw [h8, hM.2.2.2 3 (by decide) (by decide) (by decide) (by decide)]
                                          · (repeat rw [aup_n (by omega)]); rw [h9, hM.2.2.2 4 (by decide) (by decide) (by decide) (by decide)]
                                    · first
                                        | (exfalso; omega)
                                        | skip
                                          refine aw_aload_n dX7_forecast_100 rfl ?_
                                          refine aw_sipush dX7_forecast_101 (by decide) ?_
                                          refine aw_iconst dX7_forecast_104 (by decide) ?_
                                          refine c_X7_283 rfl dX7_forecast_105 m_ob (Nat.le_of_ble_eq_true rfl) (by omega) (C_m_sumOf (n := cm 1 (64 + 198 * a)) (by rw [et]; exact hTw.1) gh.1 (by omega) (by rw [et]; exact hTw.2.1) ?_)
                                          refine aK_i ?_
                                          rw [et]
                                          refine aw_goto (tgt := 113) dX7_forecast_108 (by decide) ?_
                                          refine c_X7_76 rfl dX7_forecast_113 m_ob (Nat.le_of_ble_eq_true rfl) (by omega) (C_m_gives ?_)
                                          refine aK_i ?_
                                          refine aw_ireturn dX7_forecast_116 rfl ?_
                                          refine XR.sameE h2 (by omega) ?_ ?_ ?_ ?_ ?_
                                          · first
                                              | exact hxs
                                              | exact hxs.up (by decide)
                                          · repeat (first | exact hM.ms | refine mss.up0 ?_ (by decide))
                                          · first
                                              | (rw [h7, aup_s]; done)
                                              | (rw [aup_s, aup_s, hu, if_pos (by omega)]; done)
                                              | (rw [aup_s, aup_s, hu]; rfl)
                                          · (repeat rw [aup_n (by omega)]); rw [h8, hM.2.2.2 3 (by decide) (by decide) (by decide) (by decide)]
                                          · (repeat rw [aup_n (by omega)]); rw [h9, hM.2.2.2 4 (by decide) (by decide) (by decide) (by decide)]
                              · first
                                  | (exfalso; omega)
                                  | skip
                                    refine gm_7 rfl dX7_forecast_84 dX7_forecast_85 rfl ?_
                                    refine aw_sipush dX7_forecast_88 (by decide) ?_
                                    refine aw_iaload dX7_forecast_91 m_a1 (by omega) (by omega) ?_
                                    rw [e71]
                                    refine aw_goto (tgt := 113) dX7_forecast_92 (by decide) ?_
                                    refine c_X7_76 rfl dX7_forecast_113 m_ob (Nat.le_of_ble_eq_true rfl) (by omega) (C_m_gives ?_)
                                    refine aK_i ?_
                                    refine aw_ireturn dX7_forecast_116 rfl ?_
                                    refine XR.sameE h2 (by omega) ?_ ?_ ?_ ?_ ?_
                                    · first
                                        | exact hxs
                                        | exact hxs.up (by decide)
                                    · repeat (first | exact hM.ms | refine mss.up0 ?_ (by decide))
                                    · first
                                        | (rw [h7, aup_s]; done)
                                        | (rw [aup_s, aup_s, hu, if_pos (by omega)]; done)
                                        | (rw [aup_s, aup_s, hu]; rfl)
                                    · (repeat rw [aup_n (by omega)]); rw [h8, hM.2.2.2 3 (by decide) (by decide) (by decide) (by decide)]
                                    · (repeat rw [aup_n (by omega)]); rw [h9, hM.2.2.2 4 (by decide) (by decide) (by decide) (by decide)]
                        · first
                            | (exfalso; omega)
                            | skip
                              refine aw_aload_n dX7_forecast_29 rfl ?_
                              refine aw_iconst dX7_forecast_30 (by decide) ?_
                              refine c_X7_72 rfl dX7_forecast_31 m_ob (Nat.le_of_ble_eq_true rfl) (by omega) (C_m_refuse ?_)
                              refine aK_i ?_
                              refine aw_ireturn dX7_forecast_34 rfl ?_
                              first
                                | (exfalso; omega)
                                | (refine XR.sameE h ?_ ?_ ?_ ?_ ?_ ?_
                                   · first
                                       | rfl
                                       | omega
                                   · repeat (first | exact xs.rf | refine xs.up ?_ (by decide))
                                   · repeat (first | exact mss.rf | refine mss.up0 ?_ (by decide))
                                   · first
                                       | (simp [aup, hv2, hv3, hv4]; done)
                                       | (simp [aup, hv2, hv3, hv4]; omega)
                                   · simp [aup, hv2, hv3, hv4]
                                   · simp [aup, hv2, hv3, hv4])
            · first
                | (exfalso; omega)
                | skip
                  refine aK_i ?_
                  refine aw_ifeq (tgt := 29) dX7_forecast_17 (by decide) (fun _ => ?_) (fun h => absurd h (by decide))
                  refine aw_aload_n dX7_forecast_29 rfl ?_
                  refine aw_iconst dX7_forecast_30 (by decide) ?_
                  refine c_X7_72 rfl dX7_forecast_31 m_ob (Nat.le_of_ble_eq_true rfl) (by omega) (C_m_refuse ?_)
                  refine aK_i ?_
                  refine aw_ireturn dX7_forecast_34 rfl ?_
                  first
                    | (exfalso; omega)
                    | (refine XR.sameE h ?_ ?_ ?_ ?_ ?_ ?_
                       · first
                           | rfl
                           | omega
                       · repeat (first | exact xs.rf | refine xs.up ?_ (by decide))
                       · repeat (first | exact mss.rf | refine mss.up0 ?_ (by decide))
                       · first
                           | (simp [aup, hv2, hv3, hv4]; done)
                           | (simp [aup, hv2, hv3, hv4]; omega)
                       · simp [aup, hv2, hv3, hv4]
                       · simp [aup, hv2, hv3, hv4])
      · first
          | (exfalso; omega)
          | skip
            refine aK_i ?_
            refine aw_ifeq (tgt := 29) dX7_forecast_5 (by decide) (fun _ => ?_) (fun h => absurd h (by decide))
            refine aw_aload_n dX7_forecast_29 rfl ?_
            refine aw_iconst dX7_forecast_30 (by decide) ?_
            refine c_X7_72 rfl dX7_forecast_31 m_ob (Nat.le_of_ble_eq_true rfl) (by omega) (C_m_refuse ?_)
            refine aK_i ?_
            refine aw_ireturn dX7_forecast_34 rfl ?_
            first
              | (exfalso; omega)
              | (refine XR.sameE h ?_ ?_ ?_ ?_ ?_ ?_
                 · first
                     | rfl
                     | omega
                 · repeat (first | exact xs.rf | refine xs.up ?_ (by decide))
                 · repeat (first | exact mss.rf | refine mss.up0 ?_ (by decide))
                 · first
                     | (simp [aup, hv2, hv3, hv4]; done)
                     | (simp [aup, hv2, hv3, hv4]; omega)
                 · simp [aup, hv2, hv3, hv4]
                 · simp [aup, hv2, hv3, hv4])
  · refine aK_i ?_
    refine aw_ifeq (tgt := 37) dX0_forecast_6 (by decide) (fun _ => ?_) (fun h => absurd h (by decide))
    refine aw_iconst dX0_forecast_37 (by decide) ?_
    refine p_X0_73_0 rfl dX0_forecast_38 hR.o0 ?_
    refine aw_aload_n dX0_forecast_41 rfl ?_
    refine g_X0_73_0 rfl dX0_forecast_42 hR.o0 ?_
    repeat (first | rw [aup_s] | rw [aup_n (by omega)])
    refine aw_ifle (tgt := 50) dX0_forecast_45 (by decide) (fun h => absurd h (by decide)) (fun _ => ?_)
    refine aw_iconst dX0_forecast_48 (by decide) ?_
    refine aw_ireturn dX0_forecast_49 rfl ?_
    refine ⟨_, rfl, ?_⟩
    refine AMet.go (L := [some (vR 0), some (vI a), some (vI b), some (vI c), none, none]) mok_X7_forecast (Nat.le_of_ble_eq_true rfl) rfl ?_
    refine aw_aload_n dX7_forecast_0 rfl ?_
    refine aw_iload_n dX7_forecast_1 rfl ?_
    refine c_X7_274 rfl dX7_forecast_2 m_ob (Nat.le_of_ble_eq_true rfl) (by omega) (C_m_isHive (fun hh => ?_) (fun hh => ?_))
    · first
        | (exfalso; omega)
        | skip
          refine aK_i ?_
          refine aw_ifeq (tgt := 29) dX7_forecast_5 (by decide) (fun h => absurd h (by decide)) (fun _ => ?_)
          refine aw_iload_n dX7_forecast_8 rfl ?_
          refine aw_i2l dX7_forecast_9 ?_
          refine aw_lconst0 dX7_forecast_10 ?_
          refine aw_ldc2 (x := 60) dX7_forecast_11 q1822 (by decide) ?_
          refine c_X7_306 rfl dX7_forecast_14  (Nat.le_of_ble_eq_true rfl) (by omega) (C_m_isFrom (fun hfr => ?_) (fun hfr => ?_))
          · first
              | (exfalso; omega)
              | skip
                refine aK_i ?_
                refine aw_ifeq (tgt := 29) dX7_forecast_17 (by decide) (fun h => absurd h (by decide)) (fun _ => ?_)
                refine aw_iload_n dX7_forecast_20 rfl ?_
                refine aw_iflt (tgt := 29) dX7_forecast_21 (by decide) (fun h21 => ?_) (fun h21 => ?_)
                · first
                    | (exfalso; omega)
                    | skip
                      refine aw_aload_n dX7_forecast_29 rfl ?_
                      refine aw_iconst dX7_forecast_30 (by decide) ?_
                      refine c_X7_72 rfl dX7_forecast_31 m_ob (Nat.le_of_ble_eq_true rfl) (by omega) (C_m_refuse ?_)
                      refine aK_i ?_
                      refine aw_ireturn dX7_forecast_34 rfl ?_
                      first
                        | (exfalso; omega)
                        | (refine XR.sameE h ?_ ?_ ?_ ?_ ?_ ?_
                           · first
                               | rfl
                               | omega
                           · repeat (first | exact xs.rf | refine xs.up ?_ (by decide))
                           · repeat (first | exact mss.rf | refine mss.up0 ?_ (by decide))
                           · first
                               | (simp [aup, hv2, hv3, hv4]; done)
                               | (simp [aup, hv2, hv3, hv4]; omega)
                           · simp [aup, hv2, hv3, hv4]
                           · simp [aup, hv2, hv3, hv4])
                · first
                    | (exfalso; omega)
                    | skip
                      refine aw_iload_n dX7_forecast_24 rfl ?_
                      refine aw_iconst dX7_forecast_25 (by decide) ?_
                      refine aw_icmple (tgt := 35) dX7_forecast_26 (by decide) (fun h26 => ?_) (fun h26 => ?_)
                      · first
                          | (exfalso; omega)
                          | skip
                            refine aw_aload_n dX7_forecast_35 rfl ?_
                            refine aw_iload_n dX7_forecast_36 rfl ?_
                            refine c_X7_361 rfl dX7_forecast_37 m_ob (Nat.le_of_ble_eq_true rfl) (by omega) (C_m_tries (by omega) (fun ct2 t1 t2 => ?_))
                            have hF2 : Fok ct2 := by
                              have q := HF
                              unfold Fok FC at q ⊢
                              rw [t2 0 (by decide), t2 9 (by decide)]
                              exact q
                            have hd2 : dfr cm ct2 := ⟨fun b b0 b1 b9 => t2 b b1, fun i _ _ _ _ => by rw [t2 0 (by decide)]⟩
                            refine aK_v ?_
                            refine aw_iconst dX7_forecast_40 (by decide) ?_
                            refine aw_istore4 dX7_forecast_41 (by decide) rfl ?_
                            refine aw_iconst dX7_forecast_43 (by decide) ?_
                            refine aw_istore5 dX7_forecast_44 (by decide) rfl ?_
                            refine L_m_for (a := a) (w := b) (g := c) (by omega) (by omega) hti (fun i hi => cp_out hi) gh.1 (by omega) ⟨hqa.1, hqb⟩ hla (by omega) (fun ct3 hM et => ?_) b.toNat 0 ct2 (by omega) t1 hF2 hd2
                            have e71 : ct3 1 7381 = tryR (cpR (64 + 198 * a) 7380 198 (cm 1)) (laK (cm 1) a) b.toNat (7380 + 1) := by rw [et]; rfl
                            refine aw_aload_n dX7_forecast_79 rfl ?_
                            refine aw_iload_n dX7_forecast_80 rfl ?_
                            refine aw_ifne (tgt := 95) dX7_forecast_81 (by decide) (fun h81 => ?_) (fun h81 => ?_)
                            · first
                                | (exfalso; omega)
                                | skip
                                  refine aw_iload_n dX7_forecast_95 rfl ?_
                                  refine aw_iconst dX7_forecast_96 (by decide) ?_
                                  refine aw_icmpne (tgt := 111) dX7_forecast_97 (by decide) (fun h97 => ?_) (fun h97 => ?_)
                                  · first
                                      | (exfalso; omega)
                                      | skip
                                        refine aw_iload dX7_forecast_111 rfl ?_
                                        refine c_X7_76 rfl dX7_forecast_113 m_ob (Nat.le_of_ble_eq_true rfl) (by omega) (C_m_gives ?_)
                                        refine aK_i ?_
                                        refine aw_ireturn dX7_forecast_116 rfl ?_
                                        refine XR.sameE h2 (by omega) ?_ ?_ ?_ ?_ ?_
                                        · first
                                            | exact hxs
                                            | exact hxs.up (by decide)
                                        · repeat (first | exact hM.ms | refine mss.up0 ?_ (by decide))
                                        · first
                                            | (rw [h7, aup_s]; done)
                                            | (rw [aup_s, aup_s, hu, if_pos (by omega)]; done)
                                            | (rw [aup_s, aup_s, hu]; rfl)
                                        · (repeat rw [aup_n (by omega)]); rw [h8, hM.2.2.2 3 (by decide) (by decide) (by decide) (by decide)]
                                        · (repeat rw [aup_n (by omega)]); rw [h9, hM.2.2.2 4 (by decide) (by decide) (by decide) (by decide)]
                                  · first
                                      | (exfalso; omega)
                                      | skip
                                        refine aw_aload_n dX7_forecast_100 rfl ?_
                                        refine aw_sipush dX7_forecast_101 (by decide) ?_
                                        refine aw_iconst dX7_forecast_104 (by decide) ?_
                                        refine c_X7_283 rfl dX7_forecast_105 m_ob (Nat.le_of_ble_eq_true rfl) (by omega) (C_m_sumOf (n := cm 1 (64 + 198 * a)) (by rw [et]; exact hTw.1) gh.1 (by omega) (by rw [et]; exact hTw.2.1) ?_)
                                        refine aK_i ?_
                                        rw [et]
                                        refine aw_goto (tgt := 113) dX7_forecast_108 (by decide) ?_
                                        refine c_X7_76 rfl dX7_forecast_113 m_ob (Nat.le_of_ble_eq_true rfl) (by omega) (C_m_gives ?_)
                                        refine aK_i ?_
                                        refine aw_ireturn dX7_forecast_116 rfl ?_
                                        refine XR.sameE h2 (by omega) ?_ ?_ ?_ ?_ ?_
                                        · first
                                            | exact hxs
                                            | exact hxs.up (by decide)
                                        · repeat (first | exact hM.ms | refine mss.up0 ?_ (by decide))
                                        · first
                                            | (rw [h7, aup_s]; done)
                                            | (rw [aup_s, aup_s, hu, if_pos (by omega)]; done)
                                            | (rw [aup_s, aup_s, hu]; rfl)
                                        · (repeat rw [aup_n (by omega)]); rw [h8, hM.2.2.2 3 (by decide) (by decide) (by decide) (by decide)]
                                        · (repeat rw [aup_n (by omega)]); rw [h9, hM.2.2.2 4 (by decide) (by decide) (by decide) (by decide)]
                            · first
                                | (exfalso; omega)
                                | skip
                                  refine gm_7 rfl dX7_forecast_84 dX7_forecast_85 rfl ?_
                                  refine aw_sipush dX7_forecast_88 (by decide) ?_
                                  refine aw_iaload dX7_forecast_91 m_a1 (by omega) (by omega) ?_
                                  rw [e71]
                                  refine aw_goto (tgt := 113) dX7_forecast_92 (by decide) ?_
                                  refine c_X7_76 rfl dX7_forecast_113 m_ob (Nat.le_of_ble_eq_true rfl) (by omega) (C_m_gives ?_)
                                  refine aK_i ?_
                                  refine aw_ireturn dX7_forecast_116 rfl ?_
                                  refine XR.sameE h2 (by omega) ?_ ?_ ?_ ?_ ?_
                                  · first
                                      | exact hxs
                                      | exact hxs.up (by decide)
                                  · repeat (first | exact hM.ms | refine mss.up0 ?_ (by decide))
                                  · first
                                      | (rw [h7, aup_s]; done)
                                      | (rw [aup_s, aup_s, hu, if_pos (by omega)]; done)
                                      | (rw [aup_s, aup_s, hu]; rfl)
                                  · (repeat rw [aup_n (by omega)]); rw [h8, hM.2.2.2 3 (by decide) (by decide) (by decide) (by decide)]
                                  · (repeat rw [aup_n (by omega)]); rw [h9, hM.2.2.2 4 (by decide) (by decide) (by decide) (by decide)]
                      · first
                          | (exfalso; omega)
                          | skip
                            refine aw_aload_n dX7_forecast_29 rfl ?_
                            refine aw_iconst dX7_forecast_30 (by decide) ?_
                            refine c_X7_72 rfl dX7_forecast_31 m_ob (Nat.le_of_ble_eq_true rfl) (by omega) (C_m_refuse ?_)
                            refine aK_i ?_
                            refine aw_ireturn dX7_forecast_34 rfl ?_
                            first
                              | (exfalso; omega)
                              | (refine XR.sameE h ?_ ?_ ?_ ?_ ?_ ?_
                                 · first
                                     | rfl
                                     | omega
                                 · repeat (first | exact xs.rf | refine xs.up ?_ (by decide))
                                 · repeat (first | exact mss.rf | refine mss.up0 ?_ (by decide))
                                 · first
                                     | (simp [aup, hv2, hv3, hv4]; done)
                                     | (simp [aup, hv2, hv3, hv4]; omega)
                                 · simp [aup, hv2, hv3, hv4]
                                 · simp [aup, hv2, hv3, hv4])
          · first
              | (exfalso; omega)
              | skip
                refine aK_i ?_
                refine aw_ifeq (tgt := 29) dX7_forecast_17 (by decide) (fun _ => ?_) (fun h => absurd h (by decide))
                refine aw_aload_n dX7_forecast_29 rfl ?_
                refine aw_iconst dX7_forecast_30 (by decide) ?_
                refine c_X7_72 rfl dX7_forecast_31 m_ob (Nat.le_of_ble_eq_true rfl) (by omega) (C_m_refuse ?_)
                refine aK_i ?_
                refine aw_ireturn dX7_forecast_34 rfl ?_
                first
                  | (exfalso; omega)
                  | (refine XR.sameE h ?_ ?_ ?_ ?_ ?_ ?_
                     · first
                         | rfl
                         | omega
                     · repeat (first | exact xs.rf | refine xs.up ?_ (by decide))
                     · repeat (first | exact mss.rf | refine mss.up0 ?_ (by decide))
                     · first
                         | (simp [aup, hv2, hv3, hv4]; done)
                         | (simp [aup, hv2, hv3, hv4]; omega)
                     · simp [aup, hv2, hv3, hv4]
                     · simp [aup, hv2, hv3, hv4])
    · first
        | (exfalso; omega)
        | skip
          refine aK_i ?_
          refine aw_ifeq (tgt := 29) dX7_forecast_5 (by decide) (fun _ => ?_) (fun h => absurd h (by decide))
          refine aw_aload_n dX7_forecast_29 rfl ?_
          refine aw_iconst dX7_forecast_30 (by decide) ?_
          refine c_X7_72 rfl dX7_forecast_31 m_ob (Nat.le_of_ble_eq_true rfl) (by omega) (C_m_refuse ?_)
          refine aK_i ?_
          refine aw_ireturn dX7_forecast_34 rfl ?_
          first
            | (exfalso; omega)
            | (refine XR.sameE h ?_ ?_ ?_ ?_ ?_ ?_
               · first
                   | rfl
                   | omega
               · repeat (first | exact xs.rf | refine xs.up ?_ (by decide))
               · repeat (first | exact mss.rf | refine mss.up0 ?_ (by decide))
               · first
                   | (simp [aup, hv2, hv3, hv4]; done)
                   | (simp [aup, hv2, hv3, hv4]; omega)
               · simp [aup, hv2, hv3, hv4]
               · simp [aup, hv2, hv3, hv4])
