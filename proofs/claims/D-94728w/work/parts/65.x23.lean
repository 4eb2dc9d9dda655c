set_option maxRecDepth 100000
/-! operations, 15: a hive that is tried: hungry -/
/-- a tried hive after days -/
def tryR (s : Int → Int) (y : Int) : Nat → Int → Int
  | 0 => s
  | j + 1 => dyK (tryR s y j) 7380 y
def TI (s : Int → Int) (n b : Int) : Prop := s 7380 = n ∧ rgF n (sh 7380 s) ∧ (0 ≤ s (7380 + 1) ∧ s (7380 + 1) ≤ b) ∧ 0 ≤ s (7380 + 2) ∧ s (7380 + 2) ≤ 1000
theorem TI.day {s : Int → Int} {n b y : Int} (h : TI s n b) (hn : 1 ≤ n ∧ n ≤ 12) : TI (dyK s 7380 y) n (b + 192) := by
  obtain ⟨e, rg, p3, p4⟩ := h
  subst e
  have cb := dCame_bd (n := s 7380) (c := sh 7380 s) (by omega)
  have eb := dEat_bd (n := s 7380) (c := sh 7380 s) (b := s (7380 + 1)) (u := s (7380 + 2)) (y := y) (by omega) rg p3.1 p4.1
  have db : dB (s 7380) (sh 7380 s) (s (7380 + 1)) (s (7380 + 2)) y = s (7380 + 1) + dCame (s 7380) (sh 7380 s) - min (10 * (dEat (s 7380) (sh 7380 s) (s (7380 + 1)) (s (7380 + 2)) y).2) (s (7380 + 1) + dCame (s 7380) (sh 7380 s)) := rfl
  refine ⟨dyK_o (by omega) (by omega) (by omega) (by omega), fun i i0 i1 => ?_, ?_, ?_⟩
  · rw [dyK_f i0]; exact eb.1 i i0 i1
  · unfold dyK; rw [upA_n (by omega), upA_s, db]; omega
  · unfold dyK; rw [upA_s]; unfold dH; omega
theorem TI.tr {s : Int → Int} {n b y : Int} (h : TI s n b) (hn : 1 ≤ n ∧ n ≤ 12) : ∀ j : Nat, TI (tryR s y j) n (b + 192 * j) ∧ ∀ i, i < 7380 → tryR s y j i = s i
  | 0 => ⟨by rw [show b + 192 * ((0 : Nat) : Int) = b by omega]; exact h, fun _ _ => rfl⟩
  | j + 1 => by
    have ih := TI.tr (y := y) h hn j
    have e := ih.1.1
    refine ⟨?_, fun i hi => (dyK_o (by omega) (by omega) (by omega) (by omega)).trans (ih.2 i hi)⟩
    rw [show b + 192 * ((j + 1 : Nat) : Int) = b + 192 * j + 192 by omega]
    exact ih.1.day hn
theorem cp_in {s : Int → Int} {f j : Int} (h0 : 0 ≤ j) (h1 : j < 198) : cpR f 7380 198 s (7380 + j) = s (f + j) := by
  unfold cpR
  rw [if_pos (by omega), show 7380 + j - 7380 = j by omega]
theorem cp_out {s : Int → Int} {f i : Int} (h : i < 7380) : cpR f 7380 198 s i = s i := by
  unfold cpR
  rw [if_neg (by omega)]
theorem cp_sh {s : Int → Int} {f i : Int} (h0 : 0 ≤ i) (h1 : i < 192) : sh 7380 (cpR f 7380 198 s) i = sh f s i := by
  unfold sh
  rw [show 7380 + 6 + i = 7380 + (6 + i) by omega, cp_in (by omega) (by omega), show f + (6 + i) = f + 6 + i by omega]
theorem TI.cp {s : Int → Int} {k : Int} (h : PI s) (k0 : 0 ≤ k) (k1 : k < s 0) : TI (cpR (64 + 198 * k) 7380 198 s) (s (64 + 198 * k)) 50000000 := by
  obtain ⟨p1, p2, p3, p4, p5⟩ := h.pd.2.1 k k0 k1
  have e := cp_in (s := s) (f := 64 + 198 * k) (j := 0) (by omega) (by omega)
  rw [show (7380 : Int) + 0 = 7380 by omega, show 64 + 198 * k + 0 = 64 + 198 * k by omega] at e
  refine ⟨e, fun i i0 i1 => ?_, ?_, ?_⟩
  · rw [cp_sh i0 (by omega)]; exact p2 i i0 i1
  · rw [cp_in (by omega) (by omega)]; exact p3
  · rw [cp_in (by omega) (by omega)]; exact p4
/-- BeeYard's tried hive -/
def XT (sz sz1 : Int) (im im1 : Int → aIm) (ct ct1 : Int → Int → Int) (A n q : Int) (t : Int → Int) : Prop :=
  (sz ≤ sz1 ∧ (∀ x, x < sz → im1 x = im x) ∧ ∀ x, x < sz → ct1 x = ct x) ∧ sz ≤ A ∧ HvS sz1 im1 A n ∧ HvC sz1 im1 ct1 A n (sh 7380 t) ∧ (ct1 A 3 = t (7380 + 1) ∧ ct1 A 4 = t (7380 + 2) ∧ ct1 A 5 = q) ∧ ∀ f, 0 ≤ f → f < n → sz ≤ ct1 ((im1 A).2.2 1) f
theorem C_x_tday {sz sz1 : Int} {im im1 : Int → aIm} {ct ct1 : Int → Int → Int} {A n q b y : Int} {t : Int → Int} {Q : aPost} (H : XT sz sz1 im im1 ct ct1 A n q t) (hT : TI t n b) (hy : -100 ≤ y ∧ y ≤ 100) (hb : b ≤ 100000000)
    (hQ : ∀ ct2 : Int → Int → Int, XT sz sz1 im im1 ct ct2 A n q (dyK t 7380 y) → ct2 A 10 = dStar n (sh 7380 t) (t (7380 + 1)) (t (7380 + 2)) y → Q (.inl none) (sz1, im1, ct2)) : AMet md_X9_day 4 0 0 [vR A, vI y] (sz1, im1, ct1) Q := by
  obtain ⟨⟨z0, z1, z2⟩, hA, hS, hC, ⟨e3, e4, e5⟩, hf⟩ := H
  obtain ⟨e, rg, p3, p4⟩ := id hT
  refine C_x_day hS hC rg hy (by rw [e3]; omega) (by rw [e4]; omega) (fun ct2 hC2 y3 y4 y8 y9 y10 yj yx yf => ?_)
  rw [e3, e4] at hC2 y3 y4 y10
  have hx : ∀ x, x < sz → ct2 x = ct1 x := fun x hx => funext fun j => yx x j (by omega) (by rintro ⟨f, f0, f1, ef⟩; have := hf f f0 f1; omega)
  refine hQ ct2 ⟨⟨z0, z1, fun x q1 => (hx x q1).trans (z2 x q1)⟩, hA, hS, hC2.cong (fun i i0 i1 => ?_), ⟨?_, ?_, ?_⟩, fun f f0 f1 => by rw [yf]; exact hf f f0 f1⟩ y10
  · rw [dyK_f i0, e]
  · rw [y3]; unfold dyK; rw [upA_n (by omega), upA_s, e]
  · rw [y4]; unfold dyK; rw [upA_s, e]
  · rw [yj 5 (by omega) (by omega) (by omega) (by omega) (by omega)]; exact e5
theorem C_m_tday {ct : Int → Int → Int} {n b y : Int} {Q : aPost} (hF : Fok ct) (hT : TI (ct 1) n b) (hn : 1 ≤ n ∧ n ≤ 12) (hy : -100 ≤ y ∧ y ≤ 100) (hb : b ≤ 100000000)
    (hQ : ∀ ct2 : Int → Int → Int, Fok ct2 → ct2 1 = dyK (ct 1) 7380 y → ct2 0 27 = dStar n (sh 7380 (ct 1)) (ct 1 (7380 + 1)) (ct 1 (7380 + 2)) y → dfr ct ct2 → Q (.inl none) (gM ct2)) : AMet md_X7_dayOf 3 0 0 [vR 0, vI 7380, vI y] (gM ct) Q := by
  obtain ⟨e, rg, p3, p4⟩ := hT
  exact C_m_dayOf hF e hn (by omega) rg hy (by omega) (by omega) (fun ct2 hF2 e2 a25 a26 a27 f2 => hQ ct2 hF2.ok (by rw [e2]; unfold dyK; rw [e]) a27 f2)
theorem dfr.trans {a b c : Int → Int → Int} (h : dfr a b) (k : dfr b c) : dfr a c := ⟨fun i h0 h1 h9 => (k.1 i h0 h1 h9).trans (h.1 i h0 h1 h9), fun i h0 h1 h2 h3 => (k.2 i h0 h1 h2 h3).trans (h.2 i h0 h1 h2 h3)⟩
/-- what a trial leaves of BeeYardModel -/
def mtr (cm c1 : Int → Int → Int) : Prop := Fok c1 ∧ (∀ i, i < 7380 → c1 1 i = cm 1 i) ∧ dfr cm c1
theorem mtr.ms {cm c1 : Int → Int → Int} (h : mtr cm c1) : mss cm c1 := by
  obtain ⟨h1, h2, h3, h4⟩ := h
  exact ⟨⟨fun i hi => h4 i (by omega) (by omega) (by omega) (by omega), fun i i0 i1 => h2 i (by omega), fun i hi => by rw [h3 2 (by decide) (by decide) (by decide)], h3 3 (by decide) (by decide) (by decide), h3 4 (by decide) (by decide) (by decide), h3 5 (by decide) (by decide) (by decide), h3 6 (by decide) (by decide) (by decide), h3 13 (by decide) (by decide) (by decide)⟩, fun i i0 i1 => h2 i (by omega), fun _ => h1⟩
theorem mtr.lay {cm c1 : Int → Int → Int} {k : Int} (h : mtr cm c1) (k0 : 0 ≤ k ∧ k < 4) (hq : -1 ≤ cm 1 (64 + 198 * k + 3) ∧ cm 1 (64 + 198 * k + 3) < 8) : laK (c1 1) k = laK (cm 1) k := by
  unfold laK
  rw [h.2.1 (64 + 198 * k + 3) (by omega)]
  split
  · rfl
  · exact h.2.1 _ (by omega)
theorem XR.tried {sz sz1 : Int} {im im1 : Int → aIm} {ct ct1 cm : Int → Int → Int} (h : XR (sz, im, ct) cm) (hz : sz ≤ sz1) (hi : ∀ x, x < sz → im1 x = im x) (hc : ∀ x, x < sz → ct1 x = aup ct 0 7 0 x) :
    ∃ ct2, XR (sz1, im1, ct2) cm ∧ xs ct2 ct1 ∧ ct1 0 7 = 0 ∧ ct1 0 8 = cm 0 3 ∧ ct1 0 9 = cm 0 4 := by
  obtain ⟨own, N, hR, HY, HL, HN, HS, HP, HF, HX, hv2, hv3, hv4⟩ := id h
  dsimp only at hR hv2 hv3 hv4
  have e0 := hc 0 hR.1.1.2.1
  refine ⟨fun x => if x = 0 then ct 0 else ct1 x, h.mono hz hi (fun x hx => ?_), fun x j hj => ?_, by rw [e0, aup_s], by rw [e0, aup_n (by omega)]; exact hv3, by rw [e0, aup_n (by omega)]; exact hv4⟩
  · show (if x = 0 then ct 0 else ct1 x) = ct x
    by_cases e : x = 0
    · rw [if_pos e, e]
    · rw [if_neg e, hc x hx, aup_rn e]
  · show ct1 x j = (if x = 0 then ct 0 else ct1 x) j
    by_cases e : x = 0
    · subst e
      rw [if_pos rfl, e0, aup_n (by omega)]
    · rw [if_neg e]
/-- the day of the first hunger -/
def hunE (s : Int → Int) (n y : Int) : Nat → Nat → Int
  | 0, _ => -1
  | r + 1, j => if 0 < dStar n (sh 7380 (tryR s y j)) (tryR s y j (7380 + 1)) (tryR s y j (7380 + 2)) y then ((j + 1 : Nat) : Int) else hunE s n y r (j + 1)
theorem L_x_hun {own : Int → Int} {sz sz1 : Int} {im im1 : Int → aIm} {ct : Int → Int → Int} {s N t0 : Int → Int} {dd a k A n b R : Int} {Q : aPost} {d kc ks : Nat} (hd : 5 ≤ d) (hR0 : RT own sz im ct) (HY0 : YR own 0 sz im ct 10 s dd N) (HL0 : LR own sz im ct (ct 10 0) s N) (h0 : TI t0 n b) (hn : 1 ≤ n ∧ n ≤ 12) (hb : b ≤ 50000000) (hq : -1 ≤ s (64 + 198 * k + 3) ∧ s (64 + 198 * k + 3) < s 1) (hy : -100 ≤ laK s k ∧ laK s k ≤ 100) (K1 : R ≠ -1 → ∀ ct1 : Int → Int → Int, (∀ x, x < sz → ct1 x = ct x) → AW (mq Q) md_X0_hungry d kc ks 62 [some (vR 0), some (vI a), some (vR A), some (vI R)] [] (sz1, im1, ct1)) (K0 : R = -1 → ∀ ct1 : Int → Int → Int, (∀ x, x < sz → ct1 x = ct x) → RT own sz1 im1 ct1 → AW (mq Q) md_X0_hungry d kc ks 70 [some (vR 0), some (vI a), some (vR A), some (vI 61)] [] (sz1, im1, ct1)) : ∀ (r j : Nat) (e : Int) (ct1 : Int → Int → Int), j + r = 60 → e = j + 1 → hunE t0 n (laK s k) r j = R → XT sz sz1 im im1 ct ct1 A n (s (64 + 198 * k + 3)) (tryR t0 (laK s k) j) → AW (mq Q) md_X0_hungry d kc ks 37 [some (vR 0), some (vI a), some (vR A), some (vI e)] [] (sz1, im1, ct1) := by
  intro r
  induction r with
  | zero =>
    intro j e ct1 h1 he h2 H
    have ej : e = 61 := by omega
    subst ej
    simp only [hunE] at h2
    have hT := (h0.tr (y := laK s k) hn j).1
    have T : TRn own own sz sz1 im im1 ct ct1 := ⟨H.1.1, H.1.2.1, H.1.2.2, fun _ _ _ => rfl⟩
    have hR := RT.tr T hR0
    have HY := HY0.mono H.1.1 H.1.2.1 H.1.2.2 (fun _ _ => rfl)
    have HL := LR.tr T HL0
    have e10 : ct1 10 0 = ct 10 0 := by rw [H.1.2.2 10 HY0.1.2.1]
    refine aw_iload_n dX0_hungry_37 rfl ?_
    refine aw_bipush dX0_hungry_38 (by decide) ?_
    refine aw_icmpgt (tgt := 70) dX0_hungry_40 (by decide) (fun h40 => ?_) (fun h40 => ?_)
    · exact K0 h2.symm _ H.1.2.2 hR
    · exfalso; omega
  | succ r ih =>
    intro j e ct1 h1 he h2 H
    simp only [hunE] at h2
    have hT := (h0.tr (y := laK s k) hn j).1
    have T : TRn own own sz sz1 im im1 ct ct1 := ⟨H.1.1, H.1.2.1, H.1.2.2, fun _ _ _ => rfl⟩
    have hR := RT.tr T hR0
    have HY := HY0.mono H.1.1 H.1.2.1 H.1.2.2 (fun _ _ => rfl)
    have HL := LR.tr T HL0
    have e10 : ct1 10 0 = ct 10 0 := by rw [H.1.2.2 10 HY0.1.2.1]
    refine aw_iload_n dX0_hungry_37 rfl ?_
    refine aw_bipush dX0_hungry_38 (by decide) ?_
    refine aw_icmpgt (tgt := 70) dX0_hungry_40 (by decide) (fun h40 => ?_) (fun h40 => ?_)
    · exfalso; omega
    · refine aw_aload_n dX0_hungry_43 rfl ?_
      refine aw_aload_n dX0_hungry_44 rfl ?_
      refine c_X0_158 rfl dX0_hungry_45 hR.o0 (Nat.le_of_ble_eq_true rfl) (by omega) (C_x_yard2 hR ?_)
      refine aK_i ?_
      refine aw_aload_n dX0_hungry_48 rfl ?_
      refine c_X0_397 rfl dX0_hungry_49 HY.1 (Nat.le_of_ble_eq_true rfl) (by omega) (C_x_laysIn HY.1 H.2.2.1.1 e10 HL H.2.2.2.2.1.2.2 hq.1 hq.2 ?_)
      refine aK_i ?_
      refine c_X0_401 rfl dX0_hungry_52 H.2.2.1.1 (Nat.le_of_ble_eq_true rfl) (by omega) (C_x_tday H hT hy (by omega) (fun ct2 H2 y10 => ?_))
      refine aK_v ?_
      refine aw_aload_n dX0_hungry_55 rfl ?_
      refine g_X0_403_9 rfl dX0_hungry_56 H.2.2.1.1 ?_
      rw [y10]
      refine aw_ifle (tgt := 64) dX0_hungry_59 (by decide) (fun h59 => ?_) (fun h59 => ?_)
      · refine aw_iinc3r dX0_hungry_64 (by decide) (by decide) rfl (by omega) ?_
        refine aw_goto (tgt := 37) dX0_hungry_67 (by decide) ?_
        rw [if_neg (by omega)] at h2
        exact ih (j + 1) _ ct2 (by omega) (by omega) h2 H2
      · rw [if_pos (by omega)] at h2
        have ee : e = R := by omega
        rw [ee]
        exact K1 (by omega) _ H2.1.2.2
theorem L_m_hun {cm : Int → Int → Int} {t0 : Int → Int} {a n b R : Int} {Q : aPost} {d kc ks : Nat} (hd : 4 ≤ d) (ha : 0 ≤ a ∧ a < 4) (h0 : TI t0 n b) (ht : ∀ i, i < 7380 → t0 i = cm 1 i) (hn : 1 ≤ n ∧ n ≤ 12) (hb : b ≤ 50000000) (hq : -1 ≤ cm 1 (64 + 198 * a + 3) ∧ cm 1 (64 + 198 * a + 3) < 8) (hy : -100 ≤ laK (cm 1) a ∧ laK (cm 1) a ≤ 100) (K1 : R ≠ -1 → ∀ ct1 : Int → Int → Int, mtr cm ct1 → AW (mq Q) md_X7_hungry d kc ks 46 [some (vR 0), some (vI a), some (vI R)] [] (gM ct1)) (K0 : R = -1 → ∀ ct1 : Int → Int → Int, mtr cm ct1 → AW (mq Q) md_X7_hungry d kc ks 58 [some (vR 0), some (vI a), some (vI 61)] [] (gM ct1)) : ∀ (r j : Nat) (e : Int) (ct1 : Int → Int → Int), j + r = 60 → e = j + 1 → hunE t0 n (laK (cm 1) a) r j = R → ct1 1 = tryR t0 (laK (cm 1) a) j → Fok ct1 → dfr cm ct1 → AW (mq Q) md_X7_hungry d kc ks 21 [some (vR 0), some (vI a), some (vI e)] [] (gM ct1) := by
  intro r
  induction r with
  | zero =>
    intro j e ct1 h1 he h2 e1 hF hf
    have ej : e = 61 := by omega
    subst ej
    simp only [hunE] at h2
    have hT := (h0.tr (y := laK (cm 1) a) hn j)
    have hM : mtr cm ct1 := ⟨hF, fun i hi => by rw [e1, hT.2 i hi]; exact ht i hi, hf⟩
    have eL := hM.lay ha hq
    have hq1 : ct1 1 (64 + 198 * a + 3) < 8 ∧ -1 ≤ ct1 1 (64 + 198 * a + 3) := by rw [hM.2.1 _ (by omega)]; omega
    refine aw_iload_n dX7_hungry_21 rfl ?_
    refine aw_bipush dX7_hungry_22 (by decide) ?_
    refine aw_icmpgt (tgt := 58) dX7_hungry_24 (by decide) (fun h24 => ?_) (fun h24 => ?_)
    · exact K0 h2.symm _ hM
    · exfalso; omega
  | succ r ih =>
    intro j e ct1 h1 he h2 e1 hF hf
    simp only [hunE] at h2
    have hT := (h0.tr (y := laK (cm 1) a) hn j)
    have hM : mtr cm ct1 := ⟨hF, fun i hi => by rw [e1, hT.2 i hi]; exact ht i hi, hf⟩
    have eL := hM.lay ha hq
    have hq1 : ct1 1 (64 + 198 * a + 3) < 8 ∧ -1 ≤ ct1 1 (64 + 198 * a + 3) := by rw [hM.2.1 _ (by omega)]; omega
    refine aw_iload_n dX7_hungry_21 rfl ?_
    refine aw_bipush dX7_hungry_22 (by decide) ?_
    refine aw_icmpgt (tgt := 58) dX7_hungry_24 (by decide) (fun h24 => ?_) (fun h24 => ?_)
    · exfalso; omega
    · refine aw_aload_n dX7_hungry_27 rfl ?_
      refine aw_sipush dX7_hungry_28 (by decide) ?_
      refine aw_aload_n dX7_hungry_31 rfl ?_
      refine aw_iload_n dX7_hungry_32 rfl ?_
      refine c_X7_267 rfl dX7_hungry_33 m_ob (Nat.le_of_ble_eq_true rfl) (by omega) (C_m_lays (by omega) hq1 ?_)
      refine aK_i ?_
      rw [eL]
      refine c_X7_270 rfl dX7_hungry_36 m_ob (Nat.le_of_ble_eq_true rfl) (by omega) (C_m_tday hF (by rw [e1]; exact hT.1) hn hy (by omega) (fun ct2 hF2 e2 a27 f2 => ?_))
      rw [e1] at a27
      have e3 : ct2 1 = tryR t0 (laK (cm 1) a) (j + 1) := by rw [e2, e1]; rfl
      have hf2 := hf.trans f2
      have hM2 : mtr cm ct2 := ⟨hF2, fun i hi => by rw [e3, (h0.tr (y := laK (cm 1) a) hn (j + 1)).2 i hi]; exact ht i hi, hf2⟩
      refine aK_v ?_
      refine gm_264 rfl dX7_hungry_39 dX7_hungry_40 rfl ?_
      refine aw_ifle (tgt := 52) dX7_hungry_43 (by decide) (fun h43 => ?_) (fun h43 => ?_)
      · refine aw_iinc2r dX7_hungry_52 (by decide) (by decide) rfl (by omega) ?_
        refine aw_goto (tgt := 21) dX7_hungry_55 (by decide) ?_
        rw [if_neg (by omega)] at h2
        exact ih (j + 1) _ ct2 (by omega) (by omega) h2 e3 hF2 hf2
      · rw [if_pos (by omega)] at h2
        have ee : e = R := by omega
        rw [ee]
        exact K1 (by omega) _ hM2
theorem OP_hungry {sz : Int} {im : Int → aIm} {ct cm : Int → Int → Int} (h : XR (sz, im, ct) cm) {a : Int} (r0 : -2147483648 ≤ a ∧ a < 2147483648)  : AMet md_X0_hungry 6 15 227 [vR 0, vI a] (sz, im, ct) (XQ md_X7_hungry 6 [vR 0, vI a] cm) := by
  obtain ⟨own, N, hR, HY, HL, HN, HS, HP, HF, HX, hv2, hv3, hv4⟩ := id h
  dsimp only at hR HY HL HS HX hv2 hv3 hv4
  have hp0 := HP.1
  have hp3 := HP.2.1
  have hpq := HP.2.2.2.1.1
  have hps := HP.2.2.2.2.2
  have hlt : ct 10 0 ≠ 0 := fun e => by have q1 := HL.2.2.1.1; rw [e] at q1; have q2 := hR.1.2; omega
  have hPQ := HP.2.2.2.1
  have HL1 := HL.up0 (j := 7) (v := 0) hR.1.2
  refine AMet.go (L := [some (vR 0), some (vI a), none, none]) mok_X0_hungry (Nat.le_of_ble_eq_true rfl) rfl ?_
  refine aw_aload_n dX0_hungry_0 rfl ?_
  refine aw_aload_n dX0_hungry_1 rfl ?_
  refine aw_iload_n dX0_hungry_2 rfl ?_
  refine c_X0_168 rfl dX0_hungry_3 hR.o0 (Nat.le_of_ble_eq_true rfl) (by omega) (C_x_isHive hR HY (fun xh => ?_) (fun xh => ?_))
  · refine aK_i ?_
    refine aw_ifeq (tgt := 13) dX0_hungry_6 (by decide) (fun h => absurd h (by decide)) (fun _ => ?_)
    refine aw_iconst dX0_hungry_9 (by decide) ?_
    refine aw_goto (tgt := 14) dX0_hungry_10 (by decide) ?_
    refine p_X0_73_0 rfl dX0_hungry_14 hR.o0 ?_
    refine aw_aload_n dX0_hungry_17 rfl ?_
    refine g_X0_73_0 rfl dX0_hungry_18 hR.o0 ?_
    repeat (first | rw [aup_s] | rw [aup_n (by omega)])
    refine aw_ifle (tgt := 26) dX0_hungry_21 (by decide) (fun _ => ?_) (fun h => absurd h (by decide))
    obtain ⟨hv, ehv, ⟨g1, g2, ⟨g3, g4, g5, g6, g7⟩, g8, g9, -⟩, nhv0, nhv10, nhv9, nv0, nvhv, nv10, ohv⟩ := (HY.up0 (j := 7) (v := 0) hR.1.2 (by decide)).hv (hR.up0 (j := 7) (v := 0)) (k := a) (by omega) (by omega)
    have gn := g1.2.2.2
    have gh := HP.2.2.1 a (by omega) (by omega)
    have gq := gh.2.2.2.2.1
    have gp := HP.pd.2.1 a (by omega) (by omega)
    refine aw_aload_n dX0_hungry_26 rfl ?_
    refine aw_iload_n dX0_hungry_27 rfl ?_
    refine c_X0_172 rfl dX0_hungry_28 hR.o0 (Nat.le_of_ble_eq_true rfl) (by omega) (C_x_xat2 (a := hv) hR HY (by omega) ehv ?_)
    refine aK_i ?_
    refine c_X0_393a (kc1 := 15) (ks1 := 227) (kc2 := 0) (ks2 := 0) (by decide) (by decide) rfl dX0_hungry_31 g1.1 (Nat.le_of_ble_eq_true rfl) (by omega) (C_x_hcopy g1 g2 (fun im1 ct1 hS1 hC1 z0 z3 z4 z5 z6 z7 zx z1 z2 zf => ?_))
    refine aK_v ?_
    refine aw_astore2 dX0_hungry_34 (by decide) rfl ?_
    refine aw_iconst dX0_hungry_35 (by decide) ?_
    refine aw_istore3 dX0_hungry_36 (by decide) rfl ?_
    have hti := TI.cp (k := a) HP (by omega) (by omega)
    have hqa : -1 ≤ cm 1 (64 + 198 * a + 3) ∧ cm 1 (64 + 198 * a + 3) < cm 1 1 := gq
    have hqb : cm 1 (64 + 198 * a + 3) < 8 := by omega
    have hla : -100 ≤ laK (cm 1) a ∧ laK (cm 1) a ≤ 100 := by
      unfold laK
      split
      · omega
      · have := (HP.2.2.2.1.2.2.1 (cm 1 (64 + 198 * a + 3)) (by omega) (by omega)).1
        omega
    have HXT : XT sz (sz + cm 1 (64 + 198 * a) + 3) im im1 (aup ct 0 7 0) ct1 sz (cm 1 (64 + 198 * a)) (cm 1 (64 + 198 * a + 3)) (tryR (cpR (64 + 198 * a) 7380 198 (cm 1)) (laK (cm 1) a) 0) := by
      refine ⟨⟨by omega, fun x hx => (zx x hx).1, fun x hx => (zx x hx).2⟩, Int.le_refl _, hS1, hC1.cong (fun i i0 i1 => (cp_sh i0 (by omega)).symm), ⟨?_, ?_, ?_⟩, fun f f0 f1 => by rw [z1, zf f f0 f1]; omega⟩
      · rw [z3, g3]; exact (cp_in (by omega) (by omega)).symm
      · rw [z4, g4]; exact (cp_in (by omega) (by omega)).symm
      · rw [z5, g5]
    refine L_x_hun (a := a) (k := a) (R := (hunE (cpR (64 + 198 * a) 7380 198 (cm 1)) (cm 1 (64 + 198 * a)) (laK (cm 1) a) 60 0)) (by omega) (hR.up0 (j := 7) (v := 0)) (HY.up0 (j := 7) (v := 0) hR.1.2 (by decide)) HL1 hti gh.1 (by omega) hqa hla (fun e9 ct1 hc1 => ?_) (fun e9 ct1 hc1 hR9 => ?_) 60 0 1 ct1 (by omega) (by omega) rfl HXT
    · have hlt0 := hc1
      obtain ⟨ctq, h2, hxs, h7, h8, h9⟩ := h.tried (sz1 := sz + cm 1 (64 + 198 * a) + 3) (by omega) (fun x hx => (zx x hx).1) hc1
      refine aw_iload_n dX0_hungry_62 rfl ?_
      refine aw_ireturn dX0_hungry_63 rfl ?_
      refine ⟨_, rfl, ?_⟩
      refine AMet.go (L := [some (vR 0), some (vI a), none]) mok_X7_hungry (Nat.le_of_ble_eq_true rfl) rfl ?_
      refine aw_aload_n dX7_hungry_0 rfl ?_
      refine aw_iload_n dX7_hungry_1 rfl ?_
      refine c_X7_274 rfl dX7_hungry_2 m_ob (Nat.le_of_ble_eq_true rfl) (by omega) (C_m_isHive (fun hh => ?_) (fun hh => ?_))
      · first
          | (exfalso; omega)
          | skip
            refine aK_i ?_
            refine aw_ifne (tgt := 14) dX7_hungry_5 (by decide) (fun _ => ?_) (fun h => absurd h (by decide))
            refine aw_aload_n dX7_hungry_14 rfl ?_
            refine aw_iload_n dX7_hungry_15 rfl ?_
            refine c_X7_361 rfl dX7_hungry_16 m_ob (Nat.le_of_ble_eq_true rfl) (by omega) (C_m_tries (by omega) (fun ct2 t1 t2 => ?_))
            have hF2 : Fok ct2 := by
              have q := HF
              unfold Fok FC at q ⊢
              rw [t2 0 (by decide), t2 9 (by decide)]
              exact q
            have hd2 : dfr cm ct2 := ⟨fun b b0 b1 b9 => t2 b b1, fun i _ _ _ _ => by rw [t2 0 (by decide)]⟩
            refine aK_v ?_
            refine aw_iconst dX7_hungry_19 (by decide) ?_
            refine aw_istore2 dX7_hungry_20 (by decide) rfl ?_
            refine L_m_hun (a := a) (R := (hunE (cpR (64 + 198 * a) 7380 198 (cm 1)) (cm 1 (64 + 198 * a)) (laK (cm 1) a) 60 0)) (by omega) (by omega) hti (fun i hi => cp_out hi) gh.1 (by omega) ⟨hqa.1, hqb⟩ hla (fun e8 ct3 hM => ?_) (fun e8 ct3 hM => ?_) 60 0 1 ct2 (by omega) (by omega) rfl t1 hF2 hd2
            · first
                | exact absurd e9 e8
                | (refine aw_aload_n dX7_hungry_46 rfl ?_
                   refine aw_iload_n dX7_hungry_47 rfl ?_
                   refine c_X7_76 rfl dX7_hungry_48 m_ob (Nat.le_of_ble_eq_true rfl) (by omega) (C_m_gives ?_)
                   refine aK_i ?_
                   refine aw_ireturn dX7_hungry_51 rfl ?_
                   refine XR.sameE h2 (by omega) ?_ ?_ ?_ ?_ ?_
                   · first
                       | exact hxs
                       | exact hxs.up (by decide)
                   · repeat (first | exact hM.ms | refine mss.up0 ?_ (by decide))
                   · first
                       | (rw [h7, aup_s]; done)
                       | (rw [aup_s, aup_s, hu, if_pos (by omega)]; done)
                       | (rw [aup_s, aup_s, hu]; rfl)
                   · (repeat rw [aup_n (by omega)]); rw [h8, hM.2.2.2 3 (by decide) (by decide) (by decide) (by decide)]
                   · (repeat rw [aup_n (by omega)]); rw [h9, hM.2.2.2 4 (by decide) (by decide) (by decide) (by decide)])
            · first
                | exact absurd e8 e9
                | (refine aw_aload_n dX7_hungry_58 rfl ?_
                   refine aw_bipush dX7_hungry_59 (by decide) ?_
                   refine c_X7_72 rfl dX7_hungry_61 m_ob (Nat.le_of_ble_eq_true rfl) (by omega) (C_m_refuse ?_)
                   refine aK_i ?_
                   refine aw_ireturn dX7_hungry_64 rfl ?_
                   refine XR.sameE h2 (by omega) ?_ ?_ ?_ ?_ ?_
                   · first
                       | exact hxs
                       | exact hxs.up (by decide)
                   · repeat (first | exact hM.ms | refine mss.up0 ?_ (by decide))
                   · first
                       | (rw [h7, aup_s]; done)
                       | (rw [aup_s, aup_s, hu, if_pos (by omega)]; done)
                       | (rw [aup_s, aup_s, hu]; rfl)
                   · (repeat rw [aup_n (by omega)]); rw [h8, hM.2.2.2 3 (by decide) (by decide) (by decide) (by decide)]
                   · (repeat rw [aup_n (by omega)]); rw [h9, hM.2.2.2 4 (by decide) (by decide) (by decide) (by decide)])
      · first
          | (exfalso; omega)
          | skip
            refine aK_i ?_
            refine aw_ifne (tgt := 14) dX7_hungry_5 (by decide) (fun h => absurd h (by decide)) (fun _ => ?_)
            refine aw_aload_n dX7_hungry_8 rfl ?_
            refine aw_iconst dX7_hungry_9 (by decide) ?_
            refine c_X7_72 rfl dX7_hungry_10 m_ob (Nat.le_of_ble_eq_true rfl) (by omega) (C_m_refuse ?_)
            refine aK_i ?_
            refine aw_ireturn dX7_hungry_13 rfl ?_
            first
              | (exfalso; omega)
              | (refine XR.sameE h ?_ ?_ ?_ ?_ ?_ ?_
                 · first
                     | rfl
                     | omega
                 · repeat (first | exact xs.rf | refine xs.up ?_ (by decide))
                 · repeat (first | exact mss.rf | refine mss.up0 ?_ (by decide))
                 · first
                     | (simp [aup, hv2, hv3, hv4]; done)
                     | (simp [aup, hv2, hv3, hv4]; omega)
                 · simp [aup, hv2, hv3, hv4]
                 · simp [aup, hv2, hv3, hv4])
    · have hlt0 := hc1
      obtain ⟨ctq, h2, hxs, h7, h8, h9⟩ := h.tried (sz1 := sz + cm 1 (64 + 198 * a) + 3) (by omega) (fun x hx => (zx x hx).1) hc1
      refine aw_aload_n dX0_hungry_70 rfl ?_
      refine aw_iconst dX0_hungry_71 (by decide) ?_
      refine c_X0_283 rfl dX0_hungry_72 hR9.o0 (Nat.le_of_ble_eq_true rfl) (by omega) (C_x_answer hR9 (fun u hu => ?_))
      refine aK_i ?_
      refine aw_ireturn dX0_hungry_75 rfl ?_
      refine ⟨_, rfl, ?_⟩
      refine AMet.go (L := [some (vR 0), some (vI a), none]) mok_X7_hungry (Nat.le_of_ble_eq_true rfl) rfl ?_
      refine aw_aload_n dX7_hungry_0 rfl ?_
      refine aw_iload_n dX7_hungry_1 rfl ?_
      refine c_X7_274 rfl dX7_hungry_2 m_ob (Nat.le_of_ble_eq_true rfl) (by omega) (C_m_isHive (fun hh => ?_) (fun hh => ?_))
      · first
          | (exfalso; omega)
          | skip
            refine aK_i ?_
            refine aw_ifne (tgt := 14) dX7_hungry_5 (by decide) (fun _ => ?_) (fun h => absurd h (by decide))
            refine aw_aload_n dX7_hungry_14 rfl ?_
            refine aw_iload_n dX7_hungry_15 rfl ?_
            refine c_X7_361 rfl dX7_hungry_16 m_ob (Nat.le_of_ble_eq_true rfl) (by omega) (C_m_tries (by omega) (fun ct2 t1 t2 => ?_))
            have hF2 : Fok ct2 := by
              have q := HF
              unfold Fok FC at q ⊢
              rw [t2 0 (by decide), t2 9 (by decide)]
              exact q
            have hd2 : dfr cm ct2 := ⟨fun b b0 b1 b9 => t2 b b1, fun i _ _ _ _ => by rw [t2 0 (by decide)]⟩
            refine aK_v ?_
            refine aw_iconst dX7_hungry_19 (by decide) ?_
            refine aw_istore2 dX7_hungry_20 (by decide) rfl ?_
            refine L_m_hun (a := a) (R := (hunE (cpR (64 + 198 * a) 7380 198 (cm 1)) (cm 1 (64 + 198 * a)) (laK (cm 1) a) 60 0)) (by omega) (by omega) hti (fun i hi => cp_out hi) gh.1 (by omega) ⟨hqa.1, hqb⟩ hla (fun e8 ct3 hM => ?_) (fun e8 ct3 hM => ?_) 60 0 1 ct2 (by omega) (by omega) rfl t1 hF2 hd2
            · first
                | exact absurd e9 e8
                | (refine aw_aload_n dX7_hungry_46 rfl ?_
                   refine aw_iload_n dX7_hungry_47 rfl ?_
                   refine c_X7_76 rfl dX7_hungry_48 m_ob (Nat.le_of_ble_eq_true rfl) (by omega) (C_m_gives ?_)
                   refine aK_i ?_
                   refine aw_ireturn dX7_hungry_51 rfl ?_
                   refine XR.sameE h2 (by omega) ?_ ?_ ?_ ?_ ?_
                   · first
                       | exact hxs
                       | exact hxs.up (by decide)
                   · repeat (first | exact hM.ms | refine mss.up0 ?_ (by decide))
                   · first
                       | (rw [h7, aup_s]; done)
                       | (rw [aup_s, aup_s, hu, if_pos (by omega)]; done)
                       | (rw [aup_s, aup_s, hu]; rfl)
                   · (repeat rw [aup_n (by omega)]); rw [h8, hM.2.2.2 3 (by decide) (by decide) (by decide) (by decide)]
                   · (repeat rw [aup_n (by omega)]); rw [h9, hM.2.2.2 4 (by decide) (by decide) (by decide) (by decide)])
            · first
                | exact absurd e8 e9
                | (refine aw_aload_n dX7_hungry_58 rfl ?_
                   refine aw_bipush dX7_hungry_59 (by decide) ?_
                   refine c_X7_72 rfl dX7_hungry_61 m_ob (Nat.le_of_ble_eq_true rfl) (by omega) (C_m_refuse ?_)
                   refine aK_i ?_
                   refine aw_ireturn dX7_hungry_64 rfl ?_
                   refine XR.sameE h2 (by omega) ?_ ?_ ?_ ?_ ?_
                   · first
                       | exact hxs
                       | exact hxs.up (by decide)
                   · repeat (first | exact hM.ms | refine mss.up0 ?_ (by decide))
                   · first
                       | (rw [h7, aup_s]; done)
                       | (rw [aup_s, aup_s, hu, if_pos (by omega)]; done)
                       | (rw [aup_s, aup_s, hu]; rfl)
                   · (repeat rw [aup_n (by omega)]); rw [h8, hM.2.2.2 3 (by decide) (by decide) (by decide) (by decide)]
                   · (repeat rw [aup_n (by omega)]); rw [h9, hM.2.2.2 4 (by decide) (by decide) (by decide) (by decide)])
      · first
          | (exfalso; omega)
          | skip
            refine aK_i ?_
            refine aw_ifne (tgt := 14) dX7_hungry_5 (by decide) (fun h => absurd h (by decide)) (fun _ => ?_)
            refine aw_aload_n dX7_hungry_8 rfl ?_
            refine aw_iconst dX7_hungry_9 (by decide) ?_
            refine c_X7_72 rfl dX7_hungry_10 m_ob (Nat.le_of_ble_eq_true rfl) (by omega) (C_m_refuse ?_)
            refine aK_i ?_
            refine aw_ireturn dX7_hungry_13 rfl ?_
            first
              | (exfalso; omega)
              | (refine XR.sameE h ?_ ?_ ?_ ?_ ?_ ?_
                 · first
                     | rfl
                     | omega
                 · repeat (first | exact xs.rf | refine xs.up ?_ (by decide))
                 · repeat (first | exact mss.rf | refine mss.up0 ?_ (by decide))
                 · first
                     | (simp [aup, hv2, hv3, hv4]; done)
                     | (simp [aup, hv2, hv3, hv4]; omega)
                 · simp [aup, hv2, hv3, hv4]
                 · simp [aup, hv2, hv3, hv4])
  · refine aK_i ?_
    refine aw_ifeq (tgt := 13) dX0_hungry_6 (by decide) (fun _ => ?_) (fun h => absurd h (by decide))
    refine aw_iconst dX0_hungry_13 (by decide) ?_
    refine p_X0_73_0 rfl dX0_hungry_14 hR.o0 ?_
    refine aw_aload_n dX0_hungry_17 rfl ?_
    refine g_X0_73_0 rfl dX0_hungry_18 hR.o0 ?_
    repeat (first | rw [aup_s] | rw [aup_n (by omega)])
    refine aw_ifle (tgt := 26) dX0_hungry_21 (by decide) (fun h => absurd h (by decide)) (fun _ => ?_)
    refine aw_iconst dX0_hungry_24 (by decide) ?_
    refine aw_ireturn dX0_hungry_25 rfl ?_
    refine ⟨_, rfl, ?_⟩
    refine AMet.go (L := [some (vR 0), some (vI a), none]) mok_X7_hungry (Nat.le_of_ble_eq_true rfl) rfl ?_
    refine aw_aload_n dX7_hungry_0 rfl ?_
    refine aw_iload_n dX7_hungry_1 rfl ?_
    refine c_X7_274 rfl dX7_hungry_2 m_ob (Nat.le_of_ble_eq_true rfl) (by omega) (C_m_isHive (fun hh => ?_) (fun hh => ?_))
    · first
        | (exfalso; omega)
        | skip
          refine aK_i ?_
          refine aw_ifne (tgt := 14) dX7_hungry_5 (by decide) (fun _ => ?_) (fun h => absurd h (by decide))
          refine aw_aload_n dX7_hungry_14 rfl ?_
          refine aw_iload_n dX7_hungry_15 rfl ?_
          refine c_X7_361 rfl dX7_hungry_16 m_ob (Nat.le_of_ble_eq_true rfl) (by omega) (C_m_tries (by omega) (fun ct2 t1 t2 => ?_))
          have hF2 : Fok ct2 := by
            have q := HF
            unfold Fok FC at q ⊢
            rw [t2 0 (by decide), t2 9 (by decide)]
            exact q
          have hd2 : dfr cm ct2 := ⟨fun b b0 b1 b9 => t2 b b1, fun i _ _ _ _ => by rw [t2 0 (by decide)]⟩
          refine aK_v ?_
          refine aw_iconst dX7_hungry_19 (by decide) ?_
          refine aw_istore2 dX7_hungry_20 (by decide) rfl ?_
          refine L_m_hun (a := a) (R := (hunE (cpR (64 + 198 * a) 7380 198 (cm 1)) (cm 1 (64 + 198 * a)) (laK (cm 1) a) 60 0)) (by omega) (by omega) hti (fun i hi => cp_out hi) gh.1 (by omega) ⟨hqa.1, hqb⟩ hla (fun e8 ct3 hM => ?_) (fun e8 ct3 hM => ?_) 60 0 1 ct2 (by omega) (by omega) rfl t1 hF2 hd2
          · first
              | exact absurd e9 e8
              | (refine aw_aload_n dX7_hungry_46 rfl ?_
                 refine aw_iload_n dX7_hungry_47 rfl ?_
                 refine c_X7_76 rfl dX7_hungry_48 m_ob (Nat.le_of_ble_eq_true rfl) (by omega) (C_m_gives ?_)
                 refine aK_i ?_
                 refine aw_ireturn dX7_hungry_51 rfl ?_
                 refine XR.sameE h2 (by omega) ?_ ?_ ?_ ?_ ?_
                 · first
                     | exact hxs
                     | exact hxs.up (by decide)
                 · repeat (first | exact hM.ms | refine mss.up0 ?_ (by decide))
                 · first
                     | (rw [h7, aup_s]; done)
                     | (rw [aup_s, aup_s, hu, if_pos (by omega)]; done)
                     | (rw [aup_s, aup_s, hu]; rfl)
                 · (repeat rw [aup_n (by omega)]); rw [h8, hM.2.2.2 3 (by decide) (by decide) (by decide) (by decide)]
                 · (repeat rw [aup_n (by omega)]); rw [h9, hM.2.2.2 4 (by decide) (by decide) (by decide) (by decide)])
          · first
              | exact absurd e8 e9
              | (refine aw_aload_n dX7_hungry_58 rfl ?_
                 refine aw_bipush dX7_hungry_59 (by decide) ?_
                 refine c_X7_72 rfl dX7_hungry_61 m_ob (Nat.le_of_ble_eq_true rfl) (by omega) (C_m_refuse ?_)
                 refine aK_i ?_
                 refine aw_ireturn dX7_hungry_64 rfl ?_
                 refine XR.sameE h2 (by omega) ?_ ?_ ?_ ?_ ?_
                 · first
                     | exact hxs
                     | exact hxs.up (by decide)
                 · repeat (first | exact hM.ms | refine mss.up0 ?_ (by decide))
                 · first
                     | (rw [h7, aup_s]; done)
                     | (rw [aup_s, aup_s, hu, if_pos (by omega)]; done)
                     | (rw [aup_s, aup_s, hu]; rfl)
                 · (repeat rw [aup_n (by omega)]); rw [h8, hM.2.2.2 3 (by decide) (by decide) (by decide) (by decide)]
                 · (repeat rw [aup_n (by omega)]); rw [h9, hM.2.2.2 4 (by decide) (by decide) (by decide) (by decide)])
    · first
        | (exfalso; omega)
        | skip
          refine aK_i ?_
          refine aw_ifne (tgt := 14) dX7_hungry_5 (by decide) (fun h => absurd h (by decide)) (fun _ => ?_)
          refine aw_aload_n dX7_hungry_8 rfl ?_
          refine aw_iconst dX7_hungry_9 (by decide) ?_
          refine c_X7_72 rfl dX7_hungry_10 m_ob (Nat.le_of_ble_eq_true rfl) (by omega) (C_m_refuse ?_)
          refine aK_i ?_
          refine aw_ireturn dX7_hungry_13 rfl ?_
          first
            | (exfalso; omega)
            | (refine XR.sameE h ?_ ?_ ?_ ?_ ?_ ?_
               · first
                   | rfl
                   | omega
               · repeat (first | exact xs.rf | refine xs.up ?_ (by decide))
               · repeat (first | exact mss.rf | refine mss.up0 ?_ (by decide))
               · first
                   | (simp [aup, hv2, hv3, hv4]; done)
                   | (simp [aup, hv2, hv3, hv4]; omega)
               · simp [aup, hv2, hv3, hv4]
               · simp [aup, hv2, hv3, hv4])
