set_option maxRecDepth 100000
/-! operations, 17: need -/
theorem TI.hi {s : Int → Int} {n b y : Int} (h : TI s n b) (hn : 1 ≤ n ∧ n ≤ 12) : ∀ (j : Nat) (i : Int), 7578 ≤ i → tryR s y j i = s i
  | 0, _, _ => rfl
  | j + 1, i, hi => by
    have e := (h.tr (y := y) hn j).1.1
    exact (dyK_o (by omega) (by omega) (by omega) (by omega)).trans (TI.hi h hn j i hi)
theorem TI.sto {s : Int → Int} {n b w : Int} (h : TI s n b) (hn : 1 ≤ n ∧ n ≤ 12) (hw : 0 ≤ w) : TI (stK s 7380 w) n b := by
  obtain ⟨e, rg, p3, p4⟩ := h
  subst e
  refine ⟨stK_o (by omega) (by omega), fun i i0 i1 => ?_, ?_, ?_⟩
  · rw [stK_f]; exact (stor_rg (by unfold nF; omega) rg hw).1 i i0 i1
  · rw [stK_o (by omega) (by omega)]; exact p3
  · rw [stK_o (by omega) (by omega)]; exact p4
theorem staN_mono {s : Int → Int} {n b y : Int} (h : TI s n b) (hn : 1 ≤ n ∧ n ≤ 12) {j : Nat} : ∀ d : Nat, staN s n y j ≤ staN s n y (j + d)
  | 0 => Int.le_refl _
  | d + 1 => by
    have ih := staN_mono (y := y) h hn (j := j) d
    have q := (sta_bd (y := y) (h.tr (y := y) hn (j + d)).1 hn).1
    have e1 : staN s n y (j + (d + 1)) = staN s n y (j + d) + sta (tryR s y (j + d)) n y := rfl
    omega
def neeE (t0 : Int → Int) (n y : Int) (w : Nat) : Nat → Nat → Int
  | 0, _ => -1
  | r + 1, j => if staN (stK t0 7380 j) n y w = 0 then (j : Int) else neeE t0 n y w r (j + 1)
theorem C_x_tbe {sz sz1 : Int} {im im1 : Int → aIm} {ct ct1 : Int → Int → Int} {A n q hv : Int} {c t t0 : Int → Int} {Q : aPost} (H : XT sz sz1 im im1 ct ct1 A n q t) (g1 : HvS sz im hv n) (g2 : HvC sz im ct hv n c) (e3 : ct hv 3 = t0 (7380 + 1)) (e4 : ct hv 4 = t0 (7380 + 2)) (e5 : ct hv 5 = q) (ec : eqF n c (sh 7380 t0))
    (hQ : ∀ ct2 : Int → Int → Int, XT sz sz1 im im1 ct ct2 A n q t0 → Q (.inl none) (sz1, im1, ct2)) : AMet md_X9_be 2 0 0 [vR A, vR hv] (sz1, im1, ct1) Q := by
  obtain ⟨⟨z0, z1, z2⟩, hA, hS, hC, -, hf⟩ := H
  have hl := g1.1.2.1
  have hl2 := g1.2.1.2.1
  refine C_x_hbe (by omega) hS hC (g1.mono z0 z1) (g2.mono g1 z0 z1 z2) ?_ (fun ct2 hC2 y3 y4 y5 y6 y7 yj yx yf => ?_)
  · rintro x ⟨f, f0, f1, ef⟩ ⟨g, g0, g1', eg⟩
    have h1 := hf f f0 f1
    rw [z1 hv hl, z2 _ hl2] at eg
    have h2 := (g2.2.1 g g0 g1').2.1
    omega
  · have hx : ∀ x, x < sz → ct2 x = ct1 x := fun x hx => funext fun j => yx x j (by omega) (by rintro ⟨f, f0, f1, ef⟩; have := hf f f0 f1; omega)
    refine hQ ct2 ⟨⟨z0, z1, fun x q1 => (hx x q1).trans (z2 x q1)⟩, hA, hS, hC2.cong ec, ⟨?_, ?_, ?_⟩, fun f f0 f1 => by rw [yf]; exact hf f f0 f1⟩
    · rw [y3, z2 hv hl]; exact e3
    · rw [y4, z2 hv hl]; exact e4
    · rw [y5, z2 hv hl]; exact e5
theorem C_x_tstores {sz sz1 : Int} {im im1 : Int → aIm} {ct ct1 : Int → Int → Int} {A n q b w : Int} {t : Int → Int} {Q : aPost} (H : XT sz sz1 im im1 ct ct1 A n q t) (hT : TI t n b) (hw : 0 ≤ w ∧ w < 2147483648)
    (hQ : ∀ (ct2 : Int → Int → Int) (v : Int), XT sz sz1 im im1 ct ct2 A n q (stK t 7380 w) → Q (.inl (some (vI v))) (sz1, im1, ct2)) : AMet md_X9_stores 3 0 0 [vR A, vI w] (sz1, im1, ct1) Q := by
  obtain ⟨⟨z0, z1, z2⟩, hA, hS, hC, ⟨e3, e4, e5⟩, hf⟩ := H
  obtain ⟨e, rg, p3, p4⟩ := id hT
  have hn1 := hS.2.2.2.1
  have hn2 := hS.2.2.2.2
  have hna := hvf_self hS hC
  refine C_x_stores hS hC rg hw (fun ct2 c2 hC2 ec hs hg => ?_)
  have hx : ∀ x, x < sz → ct2 x = ct1 x := fun x hx => funext fun j => hs x j (by rintro ⟨f, f0, f1, ef⟩; have := hf f f0 f1; omega)
  refine hQ ct2 _ ⟨⟨z0, z1, fun x q1 => (hx x q1).trans (z2 x q1)⟩, hA, hS, hC2.cong (fun i i0 i1 => ?_), ⟨?_, ?_, ?_⟩, fun f f0 f1 => by rw [hg]; exact hf f f0 f1⟩
  · rw [ec i i0 i1, stK_f, e]
  · rw [hs _ _ hna, stK_o (by omega) (by omega)]; exact e3
  · rw [hs _ _ hna, stK_o (by omega) (by omega)]; exact e4
  · rw [hs _ _ hna]; exact e5
/-- and nothing behind the tried hive -/
def mtq (cm c1 : Int → Int → Int) : Prop := mtr cm c1 ∧ ∀ i, 7578 ≤ i → c1 1 i = cm 1 i
theorem mtq.cp {cm c1 : Int → Int → Int} {f : Int} (h : mtq cm c1) (f0 : 0 ≤ f) (f1 : f + 198 ≤ 7380) : cpR f 7380 198 (c1 1) = cpR f 7380 198 (cm 1) := by
  funext i
  unfold cpR
  split
  · exact h.1.2.1 _ (by omega)
  · rcases (by omega : i < 7380 ∨ 7578 ≤ i) with z | z
    · exact h.1.2.1 _ z
    · exact h.2 _ z
theorem cp_hi {s : Int → Int} {f i : Int} (h : 7578 ≤ i) : cpR f 7380 198 s i = s i := by
  unfold cpR
  rw [if_neg (by omega)]
theorem L_x_need {own : Int → Int} {sz sz1 : Int} {im im1 : Int → aIm} {ct : Int → Int → Int} {s N c t0 : Int → Int} {dd hv a k A n b w R : Int} {Q : aPost} {d kc ks : Nat} (hd : 6 ≤ d) (hR0 : RT own sz im ct) (HY0 : YR own 0 sz im ct 10 s dd N) (HL0 : LR own sz im ct (ct 10 0) s N) (h0 : TI t0 n b) (hn : 1 ≤ n ∧ n ≤ 12) (hb : b ≤ 50000000) (hq : -1 ≤ s (64 + 198 * k + 3) ∧ s (64 + 198 * k + 3) < s 1) (hy : -100 ≤ laK s k ∧ laK s k ≤ 100) (hw : 0 ≤ w ∧ w ≤ 100000) (ha : 0 ≤ a ∧ a < 4) (ehv : ct ((im 10).2.2 1) a = hv) (g1 : HvS sz im hv n) (g2 : HvC sz im ct hv n c) (e3 : ct hv 3 = t0 (7380 + 1)) (e4 : ct hv 4 = t0 (7380 + 2)) (e5 : ct hv 5 = s (64 + 198 * k + 3)) (ec : eqF n c (sh 7380 t0)) (K1 : R ≠ -1 → ∀ ct1 : Int → Int → Int, (∀ x, x < sz → ct1 x = ct x) → AW (mq Q) md_X0_need d kc ks 83 [some (vR 0), some (vI a), some (vI w), some (vR A), some (vI R)] [] (sz1, im1, ct1)) (K0 : R = -1 → ∀ ct1 : Int → Int → Int, (∀ x, x < sz → ct1 x = ct x) → RT own sz1 im1 ct1 → AW (mq Q) md_X0_need d kc ks 92 [some (vR 0), some (vI a), some (vI w), some (vR A), some (vI 1001)] [] (sz1, im1, ct1)) : ∀ (r j : Nat) (e : Int) (ct1 : Int → Int → Int) (t : Int → Int), j + r = 1001 → e = j → neeE t0 n (laK s k) w.toNat r j = R → XT sz sz1 im im1 ct ct1 A n (s (64 + 198 * k + 3)) t → AW (mq Q) md_X0_need d kc ks 50 [some (vR 0), some (vI a), some (vI w), some (vR A), some (vI e)] [] (sz1, im1, ct1) := by
  intro r
  induction r with
  | zero =>
    intro j e ct1 t h1 he h2 H
    have ej : e = 1001 := by omega
    subst ej
    simp only [neeE] at h2
    have T : TRn own own sz sz1 im im1 ct ct1 := ⟨H.1.1, H.1.2.1, H.1.2.2, fun _ _ _ => rfl⟩
    have hR := RT.tr T hR0
    have HY := HY0.mono H.1.1 H.1.2.1 H.1.2.2 (fun _ _ => rfl)
    have eh1 : ct1 ((im1 10).2.2 1) a = hv := by rw [H.1.2.1 10 HY0.1.2.1, H.1.2.2 _ HY0.2.2.1.2.1]; exact ehv
    refine aw_iload dX0_need_50 rfl ?_
    refine aw_sipush dX0_need_52 (by decide) ?_
    refine aw_icmpgt (tgt := 92) dX0_need_55 (by decide) (fun h55 => ?_) (fun h55 => ?_)
    · exact K0 h2.symm _ H.1.2.2 hR
    · exfalso; omega
  | succ r ih =>
    intro j e ct1 t h1 he h2 H
    subst he
    simp only [neeE] at h2
    have hTs := h0.sto (w := (j : Int)) hn (by omega)
    have T : TRn own own sz sz1 im im1 ct ct1 := ⟨H.1.1, H.1.2.1, H.1.2.2, fun _ _ _ => rfl⟩
    have hR := RT.tr T hR0
    have HY := HY0.mono H.1.1 H.1.2.1 H.1.2.2 (fun _ _ => rfl)
    have eh1 : ct1 ((im1 10).2.2 1) a = hv := by rw [H.1.2.1 10 HY0.1.2.1, H.1.2.2 _ HY0.2.2.1.2.1]; exact ehv
    refine aw_iload dX0_need_50 rfl ?_
    refine aw_sipush dX0_need_52 (by decide) ?_
    refine aw_icmpgt (tgt := 92) dX0_need_55 (by decide) (fun h55 => ?_) (fun h55 => ?_)
    · exfalso; omega
    · refine aw_aload_n dX0_need_58 rfl ?_
      refine aw_aload_n dX0_need_59 rfl ?_
      refine aw_iload_n dX0_need_60 rfl ?_
      refine c_X0_172 rfl dX0_need_61 hR.o0 (Nat.le_of_ble_eq_true rfl) (by omega) (C_x_xat2 (a := hv) hR HY ha eh1 ?_)
      refine aK_i ?_
      refine c_X0_420 rfl dX0_need_64 H.2.2.1.1 (Nat.le_of_ble_eq_true rfl) (by omega) (C_x_tbe H g1 g2 e3 e4 e5 ec (fun ct2 H2 => ?_))
      refine aK_v ?_
      refine aw_aload_n dX0_need_67 rfl ?_
      refine aw_iload dX0_need_68 rfl ?_
      refine c_X0_351 rfl dX0_need_70 H.2.2.1.1 (Nat.le_of_ble_eq_true rfl) (by omega) (C_x_tstores H2 h0 (by omega) (fun ct3 v3 H3 => ?_))
      refine aK_i ?_
      refine aw_pop dX0_need_73 rfl ?_
      refine aw_aload_n dX0_need_74 rfl ?_
      refine aw_aload_n dX0_need_75 rfl ?_
      refine aw_iload_n dX0_need_76 rfl ?_
      refine c_X0_414 rfl dX0_need_77 hR.o0 (Nat.le_of_ble_eq_true rfl) (by omega) (C_x_starve (k := k) hR0 HY0 HL0 hTs hn hb hq hy hw H3 (fun ct4 H4 => ?_))
      refine aK_i ?_
      refine aw_ifne (tgt := 86) dX0_need_80 (by decide) (fun h80 => ?_) (fun h80 => ?_)
      · refine aw_iinc4r dX0_need_86 (by decide) (by decide) rfl (by omega) ?_
        refine aw_goto (tgt := 50) dX0_need_89 (by decide) ?_
        rw [if_neg (by omega)] at h2
        exact ih (j + 1) _ ct4 _ (by omega) (by omega) h2 H4
      · rw [if_pos (by omega)] at h2
        have ee : (j : Int) = R := by omega
        rw [ee]
        exact K1 (by omega) _ H4.1.2.2
theorem L_m_needD {cm : Int → Int → Int} {t0 : Int → Int} {a n b w g : Int} {Q : aPost} {d kc ks : Nat} (hd : 4 ≤ d) (ha : 0 ≤ a ∧ a < 4) (h0 : TI t0 n b) (ht : ∀ i, (i < 7380 ∨ 7578 ≤ i) → t0 i = cm 1 i) (hn : 1 ≤ n ∧ n ≤ 12) (hb : b ≤ 50000000) (hq : -1 ≤ cm 1 (64 + 198 * a + 3) ∧ cm 1 (64 + 198 * a + 3) < 8) (hy : -100 ≤ laK (cm 1) a ∧ laK (cm 1) a ≤ 100) {u : Int} (hw : 0 ≤ w ∧ w ≤ 100000) (K1 : staN t0 n (laK (cm 1) a) w.toNat = 0 → ∀ (ct1 : Int → Int → Int) (x6 : Option aV), mtq cm ct1 → AW (mq Q) md_X7_need d kc ks 108 [some (vR 0), some (vI a), some (vI w), some (vI g), some (vI u), some (vI 1), x6] [] (gM ct1)) (K0 : staN t0 n (laK (cm 1) a) w.toNat ≠ 0 → ∀ (ct1 : Int → Int → Int) (x6 : Option aV), mtq cm ct1 → AW (mq Q) md_X7_need d kc ks 108 [some (vR 0), some (vI a), some (vI w), some (vI g), some (vI u), some (vI 0), x6] [] (gM ct1)) : ∀ (r j : Nat) (ct1 : Int → Int → Int), (j : Int) + r = w → staN t0 n (laK (cm 1) a) j = 0 → ct1 1 = tryR t0 (laK (cm 1) a) j → Fok ct1 → dfr cm ct1 → AW (mq Q) md_X7_need d kc ks 65 [some (vR 0), some (vI a), some (vI w), some (vI g), some (vI u), some (vI 1), some (vI j)] [] (gM ct1) := by
  have ht0 : ∀ i, i < 7380 → t0 i = cm 1 i := fun i hi => ht i (Or.inl hi)
  intro r
  induction r with
  | zero =>
    intro j ct1 h1 hz e1 hF hf
    have ej : w.toNat = j := by omega
    rw [ej] at K1
    have hT := (h0.tr (y := laK (cm 1) a) hn j)
    have hM : mtr cm ct1 := ⟨hF, fun i hi => by rw [e1, hT.2 i hi]; exact ht0 i hi, hf⟩
    have eL := hM.lay ha hq
    have hq1 : ct1 1 (64 + 198 * a + 3) < 8 ∧ -1 ≤ ct1 1 (64 + 198 * a + 3) := by rw [hM.2.1 _ (by omega)]; omega
    have hM9 : mtq cm ct1 := ⟨hM, fun i hi => by rw [e1, h0.hi hn j i hi]; exact ht i (Or.inr hi)⟩
    refine aw_iload dX7_need_65 rfl ?_
    refine aw_iload_n dX7_need_67 rfl ?_
    refine aw_icmpge (tgt := 108) dX7_need_68 (by decide) (fun h68 => ?_) (fun h68 => ?_)
    · exact K1 hz _ _ hM9
    · exfalso; omega
  | succ r ih =>
    intro j ct1 h1 hz e1 hF hf
    have es : staN t0 n (laK (cm 1) a) (j + 1) = staN t0 n (laK (cm 1) a) j + sta (tryR t0 (laK (cm 1) a) j) n (laK (cm 1) a) := rfl
    have hs0 := (staN_bd (y := laK (cm 1) a) h0 hn (j + 1)).1
    have hmo := staN_mono (y := laK (cm 1) a) h0 hn (j := j + 1) (w.toNat - (j + 1))
    rw [show j + 1 + (w.toNat - (j + 1)) = w.toNat by omega] at hmo
    have hT := (h0.tr (y := laK (cm 1) a) hn j)
    have hM : mtr cm ct1 := ⟨hF, fun i hi => by rw [e1, hT.2 i hi]; exact ht0 i hi, hf⟩
    have eL := hM.lay ha hq
    have hq1 : ct1 1 (64 + 198 * a + 3) < 8 ∧ -1 ≤ ct1 1 (64 + 198 * a + 3) := by rw [hM.2.1 _ (by omega)]; omega
    refine aw_iload dX7_need_65 rfl ?_
    refine aw_iload_n dX7_need_67 rfl ?_
    refine aw_icmpge (tgt := 108) dX7_need_68 (by decide) (fun h68 => ?_) (fun h68 => ?_)
    · exfalso; omega
    · refine aw_iload dX7_need_71 rfl ?_
      refine aw_ifeq (tgt := 108) dX7_need_73 (by decide) (fun h73 => ?_) (fun h73 => ?_)
      · exfalso; omega
      · refine aw_aload_n dX7_need_76 rfl ?_
        refine aw_sipush dX7_need_77 (by decide) ?_
        refine aw_aload_n dX7_need_80 rfl ?_
        refine aw_iload_n dX7_need_81 rfl ?_
        refine c_X7_267 rfl dX7_need_82 m_ob (Nat.le_of_ble_eq_true rfl) (by omega) (C_m_lays (by omega) hq1 ?_)
        refine aK_i ?_
        rw [eL]
        refine c_X7_270 rfl dX7_need_85 m_ob (Nat.le_of_ble_eq_true rfl) (by omega) (C_m_tday hF (by rw [e1]; exact hT.1) hn hy (by omega) (fun ct2 hF2 e2 a27 f2 => ?_))
        rw [e1] at a27
        have a28 : ct2 0 27 = sta (tryR t0 (laK (cm 1) a) j) n (laK (cm 1) a) := a27
        have e3 : ct2 1 = tryR t0 (laK (cm 1) a) (j + 1) := by rw [e2, e1]; rfl
        have hf2 := hf.trans f2
        have hM2 : mtq cm ct2 := ⟨⟨hF2, fun i hi => by rw [e3, (h0.tr (y := laK (cm 1) a) hn (j + 1)).2 i hi]; exact ht0 i hi, hf2⟩, fun i hi => by rw [e3, h0.hi hn (j + 1) i hi]; exact ht i (Or.inr hi)⟩
        refine aK_v ?_
        refine gm_264 rfl dX7_need_88 dX7_need_89 rfl ?_
        rw [a28]
        refine aw_ifne (tgt := 99) dX7_need_92 (by decide) (fun h92 => ?_) (fun h92 => ?_)
        · refine aw_iconst dX7_need_99 (by decide) ?_
          refine aw_istore5 dX7_need_100 (by decide) rfl ?_
          refine aw_iinc6r dX7_need_102 (by decide) (by decide) rfl (by omega) ?_
          refine aw_goto (tgt := 65) dX7_need_105 (by decide) ?_
          first
            | exact ih (j + 1) ct2 (by omega) (by omega) e3 hF2 hf2
            | (have hnz : staN t0 n (laK (cm 1) a) w.toNat ≠ 0 := by omega
               refine aw_iload dX7_need_65 rfl ?_
               refine aw_iload_n dX7_need_67 rfl ?_
               refine aw_icmpge (tgt := 108) dX7_need_68 (by decide) (fun h68 => ?_) (fun h68 => ?_)
               · exact K0 hnz _ _ hM2
               · refine aw_iload dX7_need_71 rfl ?_
                 refine aw_ifeq (tgt := 108) dX7_need_73 (by decide) (fun h73 => ?_) (fun h73 => ?_)
                 · exact K0 hnz _ _ hM2
                 · exfalso; omega)
        · refine aw_iconst dX7_need_95 (by decide) ?_
          refine aw_goto (tgt := 100) dX7_need_96 (by decide) ?_
          refine aw_istore5 dX7_need_100 (by decide) rfl ?_
          refine aw_iinc6r dX7_need_102 (by decide) (by decide) rfl (by omega) ?_
          refine aw_goto (tgt := 65) dX7_need_105 (by decide) ?_
          first
            | exact ih (j + 1) ct2 (by omega) (by omega) e3 hF2 hf2
            | (have hnz : staN t0 n (laK (cm 1) a) w.toNat ≠ 0 := by omega
               refine aw_iload dX7_need_65 rfl ?_
               refine aw_iload_n dX7_need_67 rfl ?_
               refine aw_icmpge (tgt := 108) dX7_need_68 (by decide) (fun h68 => ?_) (fun h68 => ?_)
               · exact K0 hnz _ _ hM2
               · refine aw_iload dX7_need_71 rfl ?_
                 refine aw_ifeq (tgt := 108) dX7_need_73 (by decide) (fun h73 => ?_) (fun h73 => ?_)
                 · exact K0 hnz _ _ hM2
                 · exfalso; omega)
theorem L_m_need {cm : Int → Int → Int} {t0 : Int → Int} {a n b w R : Int} {Q : aPost} {d kc ks : Nat} (hd : 6 ≤ d) (ha : 0 ≤ a ∧ a < 4) (h0 : TI t0 n b) (ht : t0 = cpR (64 + 198 * a) 7380 198 (cm 1)) (hn : 1 ≤ n ∧ n ≤ 12) (hb : b ≤ 50000000) (hq : -1 ≤ cm 1 (64 + 198 * a + 3) ∧ cm 1 (64 + 198 * a + 3) < 8) (hy : -100 ≤ laK (cm 1) a ∧ laK (cm 1) a ≤ 100) (hw : 0 ≤ w ∧ w ≤ 100000) (K1 : R ≠ -1 → ∀ (ct1 : Int → Int → Int) (x4 x5 x6 : Option aV), mtr cm ct1 → AW (mq Q) md_X7_need d kc ks 113 [some (vR 0), some (vI a), some (vI w), some (vI R), x4, x5, x6] [] (gM ct1)) (K0 : R = -1 → ∀ (ct1 : Int → Int → Int) (x4 x5 x6 : Option aV), mtr cm ct1 → AW (mq Q) md_X7_need d kc ks 125 [some (vR 0), some (vI a), some (vI w), some (vI 1001), x4, x5, x6] [] (gM ct1)) : ∀ (r j : Nat) (e : Int) (ct1 : Int → Int → Int) (x4 x5 x6 : Option aV), j + r = 1001 → e = j → neeE t0 n (laK (cm 1) a) w.toNat r j = R → mtq cm ct1 → AW (mq Q) md_X7_need d kc ks 28 [some (vR 0), some (vI a), some (vI w), some (vI e), x4, x5, x6] [] (gM ct1) := by
  intro r
  induction r with
  | zero =>
    intro j e ct1 x4 x5 x6 h1 he h2 hM
    have ej : e = 1001 := by omega
    subst ej
    simp only [neeE] at h2
    refine aw_iload_n dX7_need_28 rfl ?_
    refine aw_sipush dX7_need_29 (by decide) ?_
    refine aw_icmpgt (tgt := 125) dX7_need_32 (by decide) (fun h32 => ?_) (fun h32 => ?_)
    · exact K0 h2.symm _ _ _ _ hM.1
    · exfalso; omega
  | succ r ih =>
    intro j e ct1 x4 x5 x6 h1 he h2 hM
    subst he
    simp only [neeE] at h2
    have hTs := h0.sto (w := (j : Int)) hn (by omega)
    have hst : 0 ≤ (stor n (nF n) (sh 7380 t0) j).2 := (stor_rg (by unfold nF; omega) h0.2.1 (by omega)).2.1
    have hst2 : (stor n (nF n) (sh 7380 t0) j).2 ≤ j := (stor_rg (by unfold nF; omega) h0.2.1 (by omega)).2.2
    refine aw_iload_n dX7_need_28 rfl ?_
    refine aw_sipush dX7_need_29 (by decide) ?_
    refine aw_icmpgt (tgt := 125) dX7_need_32 (by decide) (fun h32 => ?_) (fun h32 => ?_)
    · exfalso; omega
    · refine aw_aload_n dX7_need_35 rfl ?_
      refine aw_iload_n dX7_need_36 rfl ?_
      refine c_X7_361 rfl dX7_need_37 m_ob (Nat.le_of_ble_eq_true rfl) (by omega) (C_m_tries ha (fun ct2 t1 t2 => ?_))
      have hF2 : Fok ct2 := by
        have q := hM.1.1
        unfold Fok FC at q ⊢
        rw [t2 0 (by decide), t2 9 (by decide)]
        exact q
      have hd2 : dfr cm ct2 := hM.1.2.2.trans ⟨fun b b0 b1 b9 => t2 b b1, fun i _ _ _ _ => by rw [t2 0 (by decide)]⟩
      have e2 : ct2 1 = t0 := by rw [t1, hM.cp (by omega) (by omega), ht]
      have k1 := h0.1
      rw [← e2] at k1
      refine aK_v ?_
      refine aw_aload_n dX7_need_40 rfl ?_
      refine aw_sipush dX7_need_41 (by decide) ?_
      refine aw_iload_n dX7_need_44 rfl ?_
      refine c_X7_188 rfl dX7_need_45 m_ob (Nat.le_of_ble_eq_true rfl) (by omega) (C_m_stores hF2 k1 hn (by omega) (by omega) (by rw [e2]; exact h0.2.1) (fun ct3 hF3 s1 f3 => ?_))
      have e3 : ct3 1 = stK t0 7380 j := by rw [s1, e2]; unfold stK; rw [h0.1]
      have hd3 : dfr cm ct3 := hd2.trans ⟨f3.1, fun i i1 _ _ _ => f3.2 i i1⟩
      refine aK_i ?_
      rw [e2]
      refine aw_istore4 dX7_need_48 (by decide) rfl ?_
      refine aw_iload dX7_need_50 rfl ?_
      refine aw_iflt (tgt := 59) dX7_need_52 (by decide) (fun h52 => ?_) (fun h52 => ?_)
      · exfalso; omega
      · refine aw_iconst dX7_need_55 (by decide) ?_
        refine aw_goto (tgt := 60) dX7_need_56 (by decide) ?_
        refine aw_istore5 dX7_need_60 (by decide) rfl ?_
        refine aw_iconst dX7_need_62 (by decide) ?_
        refine aw_istore6 dX7_need_63 (by decide) rfl ?_
        refine L_m_needD (cm := cm) (t0 := stK t0 7380 j) (a := a) (w := w) (g := (j : Int)) (by omega) ha hTs (fun i hi => ?_) hn hb hq hy hw (fun hz ct4 x7 hM4 => ?_) (fun hz ct4 x7 hM4 => ?_) w.toNat 0 ct3 (by omega) rfl e3 hF3.ok hd3
        · have hn0 := h0.1
          rw [stK_o (by omega) (by omega), ht]
          rcases hi with z | z
          · exact cp_out z
          · exact cp_hi z
        · rw [if_pos hz] at h2
          subst h2
          refine aw_iload dX7_need_108 rfl ?_
          refine aw_ifeq (tgt := 119) dX7_need_110 (by decide) (fun h110 => ?_) (fun h110 => ?_)
          · exfalso; omega
          · exact K1 (by omega) _ _ _ _ hM4.1
        · rw [if_neg hz] at h2
          refine aw_iload dX7_need_108 rfl ?_
          refine aw_ifeq (tgt := 119) dX7_need_110 (by decide) (fun h110 => ?_) (fun h110 => ?_)
          · refine aw_iinc3r dX7_need_119 (by decide) (by decide) rfl (by omega) ?_
            refine aw_goto (tgt := 28) dX7_need_122 (by decide) ?_
            exact ih (j + 1) _ _ _ _ _ (by omega) (by omega) h2 hM4
          · exfalso; omega
theorem OP_need {sz : Int} {im : Int → aIm} {ct cm : Int → Int → Int} (h : XR (sz, im, ct) cm) {a b : Int} (r0 : -2147483648 ≤ a ∧ a < 2147483648) (r1 : -2147483648 ≤ b ∧ b < 2147483648)  : AMet md_X0_need 7 15 227 [vR 0, vI a, vI b] (sz, im, ct) (XQ md_X7_need 7 [vR 0, vI a, vI b] cm) := by
  obtain ⟨own, N, hR, HY, HL, HN, HS, HP, HF, HX, hv2, hv3, hv4⟩ := id h
  dsimp only at hR HY HL HS HX hv2 hv3 hv4
  have hp0 := HP.1
  have hp3 := HP.2.1
  have hpq := HP.2.2.2.1.1
  have hps := HP.2.2.2.2.2
  have hlt : ct 10 0 ≠ 0 := fun e => by have q1 := HL.2.2.1.1; rw [e] at q1; have q2 := hR.1.2; omega
  have hPQ := HP.2.2.2.1
  have HL1 := HL.up0 (j := 7) (v := 0) hR.1.2
  refine AMet.go (L := [some (vR 0), some (vI a), some (vI b), none, none]) mok_X0_need (Nat.le_of_ble_eq_true rfl) rfl ?_
  refine aw_aload_n dX0_need_0 rfl ?_
  refine aw_aload_n dX0_need_1 rfl ?_
  refine aw_iload_n dX0_need_2 rfl ?_
  refine c_X0_168 rfl dX0_need_3 hR.o0 (Nat.le_of_ble_eq_true rfl) (by omega) (C_x_isHive hR HY (fun xh => ?_) (fun xh => ?_))
  · refine aK_i ?_
    refine aw_ifeq (tgt := 25) dX0_need_6 (by decide) (fun h => absurd h (by decide)) (fun _ => ?_)
    refine aw_iload_n dX0_need_9 rfl ?_
    refine aw_i2l dX0_need_10 ?_
    refine aw_lconst1 dX0_need_11 ?_
    refine aw_ldc2 (x := 30) dX0_need_12 q1311 (by decide) ?_
    refine c_X0_164 rfl dX0_need_15  (Nat.le_of_ble_eq_true rfl) (by omega) (C_x_isIn (fun hi => ?_) (fun hi => ?_))
    · refine aK_i ?_
      refine aw_ifeq (tgt := 25) dX0_need_18 (by decide) (fun h => absurd h (by decide)) (fun _ => ?_)
      refine aw_iconst dX0_need_21 (by decide) ?_
      refine aw_goto (tgt := 26) dX0_need_22 (by decide) ?_
      refine p_X0_73_0 rfl dX0_need_26 hR.o0 ?_
      refine aw_aload_n dX0_need_29 rfl ?_
      refine g_X0_73_0 rfl dX0_need_30 hR.o0 ?_
      repeat (first | rw [aup_s] | rw [aup_n (by omega)])
      refine aw_ifle (tgt := 38) dX0_need_33 (by decide) (fun _ => ?_) (fun h => absurd h (by decide))
      obtain ⟨hv, ehv, ⟨g1, g2, ⟨g3, g4, g5, g6, g7⟩, g8, g9, -⟩, nhv0, nhv10, nhv9, nv0, nvhv, nv10, ohv⟩ := (HY.up0 (j := 7) (v := 0) hR.1.2 (by decide)).hv (hR.up0 (j := 7) (v := 0)) (k := a) (by omega) (by omega)
      have gn := g1.2.2.2
      have gh := HP.2.2.1 a (by omega) (by omega)
      have gq := gh.2.2.2.2.1
      have gp := HP.pd.2.1 a (by omega) (by omega)
      refine aw_aload_n dX0_need_38 rfl ?_
      refine aw_iload_n dX0_need_39 rfl ?_
      refine c_X0_172 rfl dX0_need_40 hR.o0 (Nat.le_of_ble_eq_true rfl) (by omega) (C_x_xat2 (a := hv) hR HY (by omega) ehv ?_)
      refine aK_i ?_
      refine c_X0_393a (kc1 := 15) (ks1 := 227) (kc2 := 0) (ks2 := 0) (by decide) (by decide) rfl dX0_need_43 g1.1 (Nat.le_of_ble_eq_true rfl) (by omega) (C_x_hcopy g1 g2 (fun im1 ct1 hS1 hC1 z0 z3 z4 z5 z6 z7 zx z1 z2 zf => ?_))
      refine aK_v ?_
      refine aw_astore3 dX0_need_46 (by decide) rfl ?_
      refine aw_iconst dX0_need_47 (by decide) ?_
      refine aw_istore4 dX0_need_48 (by decide) rfl ?_
      have hti := TI.cp (k := a) HP (by omega) (by omega)
      have hqa : -1 ≤ cm 1 (64 + 198 * a + 3) ∧ cm 1 (64 + 198 * a + 3) < cm 1 1 := gq
      have hqb : cm 1 (64 + 198 * a + 3) < 8 := by omega
      have hla : -100 ≤ laK (cm 1) a ∧ laK (cm 1) a ≤ 100 := by
        unfold laK
        split
        · omega
        · have := (HP.2.2.2.1.2.2.1 (cm 1 (64 + 198 * a + 3)) (by omega) (by omega)).1
          omega
      have HXT : XT sz (sz + cm 1 (64 + 198 * a) + 3) im im1 (aup ct 0 7 0) ct1 sz (cm 1 (64 + 198 * a)) (cm 1 (64 + 198 * a + 3)) (tryR (cpR (64 + 198 * a) 7380 198 (cm 1)) (laK (cm 1) a) 0) := by
        refine ⟨⟨by omega, fun x hx => (zx x hx).1, fun x hx => (zx x hx).2⟩, Int.le_refl _, hS1, hC1.cong (fun i i0 i1 => (cp_sh i0 (by omega)).symm), ⟨?_, ?_, ?_⟩, fun f f0 f1 => by rw [z1, zf f f0 f1]; omega⟩
        · rw [z3, g3]; exact (cp_in (by omega) (by omega)).symm
        · rw [z4, g4]; exact (cp_in (by omega) (by omega)).symm
        · rw [z5, g5]
      refine L_x_need (a := a) (k := a) (w := b) (R := (neeE (cpR (64 + 198 * a) 7380 198 (cm 1)) (cm 1 (64 + 198 * a)) (laK (cm 1) a) b.toNat 1001 0)) (by omega) (hR.up0 (j := 7) (v := 0)) (HY.up0 (j := 7) (v := 0) hR.1.2 (by decide)) HL1 hti gh.1 (by omega) hqa hla (by omega) (by omega) ehv g1 g2 (by rw [g3]; exact (cp_in (by omega) (by omega)).symm) (by rw [g4]; exact (cp_in (by omega) (by omega)).symm) g5 (fun i i0 i1 => (cp_sh i0 (by omega)).symm) (fun e9 ct1 hc1 => ?_) (fun e9 ct1 hc1 hR9 => ?_) 1001 0 0 ct1 _ (by omega) (by omega) rfl HXT
      · have hlt0 := hc1
        obtain ⟨ctq, h2, hxs, h7, h8, h9⟩ := h.tried (sz1 := sz + cm 1 (64 + 198 * a) + 3) (by omega) (fun x hx => (zx x hx).1) hc1
        refine aw_iload dX0_need_83 rfl ?_
        refine aw_ireturn dX0_need_85 rfl ?_
        refine ⟨_, rfl, ?_⟩
        refine AMet.go (L := [some (vR 0), some (vI a), some (vI b), none, none, none, none]) mok_X7_need (Nat.le_of_ble_eq_true rfl) rfl ?_
        refine aw_aload_n dX7_need_0 rfl ?_
        refine aw_iload_n dX7_need_1 rfl ?_
        refine c_X7_274 rfl dX7_need_2 m_ob (Nat.le_of_ble_eq_true rfl) (by omega) (C_m_isHive (fun hh => ?_) (fun hh => ?_))
        · first
            | (exfalso; omega)
            | skip
              refine aK_i ?_
              refine aw_ifeq (tgt := 20) dX7_need_5 (by decide) (fun h => absurd h (by decide)) (fun _ => ?_)
              refine aw_iload_n dX7_need_8 rfl ?_
              refine aw_i2l dX7_need_9 ?_
              refine aw_lconst1 dX7_need_10 ?_
              refine aw_ldc2 (x := 30) dX7_need_11 q2030 (by decide) ?_
              refine c_X7_306 rfl dX7_need_14  (Nat.le_of_ble_eq_true rfl) (by omega) (C_m_isFrom (fun hfr => ?_) (fun hfr => ?_))
              · first
                  | (exfalso; omega)
                  | skip
                    refine aK_i ?_
                    refine aw_ifne (tgt := 26) dX7_need_17 (by decide) (fun _ => ?_) (fun h => absurd h (by decide))
                    refine aw_iconst dX7_need_26 (by decide) ?_
                    refine aw_istore3 dX7_need_27 (by decide) rfl ?_
                    refine L_m_need (a := a) (w := b) (R := (neeE (cpR (64 + 198 * a) 7380 198 (cm 1)) (cm 1 (64 + 198 * a)) (laK (cm 1) a) b.toNat 1001 0)) (by omega) (by omega) hti rfl gh.1 (by omega) ⟨hqa.1, hqb⟩ hla (by omega) (fun e8 ct3 x4 x5 x6 hM => ?_) (fun e8 ct3 x4 x5 x6 hM => ?_) 1001 0 0 cm _ _ _ (by omega) (by omega) rfl ⟨⟨HF, fun _ _ => rfl, dfr.rf⟩, fun _ _ => rfl⟩
                    · first
                        | exact absurd e9 e8
                        | (refine aw_aload_n dX7_need_113 rfl ?_
                           refine aw_iload_n dX7_need_114 rfl ?_
                           refine c_X7_76 rfl dX7_need_115 m_ob (Nat.le_of_ble_eq_true rfl) (by omega) (C_m_gives ?_)
                           refine aK_i ?_
                           refine aw_ireturn dX7_need_118 rfl ?_
                           refine XR.sameE h2 (by omega) ?_ ?_ ?_ ?_ ?_
                           · first
                               | exact hxs
                               | exact hxs.up (by decide)
                           · repeat (first | exact hM.ms | refine mss.up0 ?_ (by decide))
                           · first
                               | (rw [h7, aup_s]; done)
                               | (rw [aup_s, aup_s, hu, if_pos (by omega)]; done)
                               | (rw [aup_s, aup_s, hu]; rfl)
                           · (repeat rw [aup_n (by omega)]); rw [h8, hM.2.2.2 3 (by decide) (by decide) (by decide) (by decide)]
                           · (repeat rw [aup_n (by omega)]); rw [h9, hM.2.2.2 4 (by decide) (by decide) (by decide) (by decide)])
                    · first
                        | exact absurd e8 e9
                        | (refine aw_aload_n dX7_need_125 rfl ?_
                           refine aw_bipush dX7_need_126 (by decide) ?_
                           refine c_X7_72 rfl dX7_need_128 m_ob (Nat.le_of_ble_eq_true rfl) (by omega) (C_m_refuse ?_)
                           refine aK_i ?_
                           refine aw_ireturn dX7_need_131 rfl ?_
                           refine XR.sameE h2 (by omega) ?_ ?_ ?_ ?_ ?_
                           · first
                               | exact hxs
                               | exact hxs.up (by decide)
                           · repeat (first | exact hM.ms | refine mss.up0 ?_ (by decide))
                           · first
                               | (rw [h7, aup_s]; done)
                               | (rw [aup_s, aup_s, hu, if_pos (by omega)]; done)
                               | (rw [aup_s, aup_s, hu]; rfl)
                           · (repeat rw [aup_n (by omega)]); rw [h8, hM.2.2.2 3 (by decide) (by decide) (by decide) (by decide)]
                           · (repeat rw [aup_n (by omega)]); rw [h9, hM.2.2.2 4 (by decide) (by decide) (by decide) (by decide)])
              · first
                  | (exfalso; omega)
                  | skip
                    refine aK_i ?_
                    refine aw_ifne (tgt := 26) dX7_need_17 (by decide) (fun h => absurd h (by decide)) (fun _ => ?_)
                    refine aw_aload_n dX7_need_20 rfl ?_
                    refine aw_iconst dX7_need_21 (by decide) ?_
                    refine c_X7_72 rfl dX7_need_22 m_ob (Nat.le_of_ble_eq_true rfl) (by omega) (C_m_refuse ?_)
                    refine aK_i ?_
                    refine aw_ireturn dX7_need_25 rfl ?_
                    first
                      | (exfalso; omega)
                      | (refine XR.sameE h ?_ ?_ ?_ ?_ ?_ ?_
                         · first
                             | rfl
                             | omega
                         · repeat (first | exact xs.rf | refine xs.up ?_ (by decide))
                         · repeat (first | exact mss.rf | refine mss.up0 ?_ (by decide))
                         · first
                             | (simp [aup, hv2, hv3, hv4]; done)
                             | (simp [aup, hv2, hv3, hv4]; omega)
                         · simp [aup, hv2, hv3, hv4]
                         · simp [aup, hv2, hv3, hv4])
        · first
            | (exfalso; omega)
            | skip
              refine aK_i ?_
              refine aw_ifeq (tgt := 20) dX7_need_5 (by decide) (fun _ => ?_) (fun h => absurd h (by decide))
              refine aw_aload_n dX7_need_20 rfl ?_
              refine aw_iconst dX7_need_21 (by decide) ?_
              refine c_X7_72 rfl dX7_need_22 m_ob (Nat.le_of_ble_eq_true rfl) (by omega) (C_m_refuse ?_)
              refine aK_i ?_
              refine aw_ireturn dX7_need_25 rfl ?_
              first
                | (exfalso; omega)
                | (refine XR.sameE h ?_ ?_ ?_ ?_ ?_ ?_
                   · first
                       | rfl
                       | omega
                   · repeat (first | exact xs.rf | refine xs.up ?_ (by decide))
                   · repeat (first | exact mss.rf | refine mss.up0 ?_ (by decide))
                   · first
                       | (simp [aup, hv2, hv3, hv4]; done)
                       | (simp [aup, hv2, hv3, hv4]; omega)
                   · simp [aup, hv2, hv3, hv4]
                   · simp [aup, hv2, hv3, hv4])
      · have hlt0 := hc1
        obtain ⟨ctq, h2, hxs, h7, h8, h9⟩ := h.tried (sz1 := sz + cm 1 (64 + 198 * a) + 3) (by omega) (fun x hx => (zx x hx).1) hc1
        refine aw_aload_n dX0_need_92 rfl ?_
        refine aw_iconst dX0_need_93 (by decide) ?_
        refine c_X0_283 rfl dX0_need_94 hR9.o0 (Nat.le_of_ble_eq_true rfl) (by omega) (C_x_answer hR9 (fun u hu => ?_))
        refine aK_i ?_
        refine aw_ireturn dX0_need_97 rfl ?_
        refine ⟨_, rfl, ?_⟩
        refine AMet.go (L := [some (vR 0), some (vI a), some (vI b), none, none, none, none]) mok_X7_need (Nat.le_of_ble_eq_true rfl) rfl ?_
        refine aw_aload_n dX7_need_0 rfl ?_
        refine aw_iload_n dX7_need_1 rfl ?_
        refine c_X7_274 rfl dX7_need_2 m_ob (Nat.le_of_ble_eq_true rfl) (by omega) (C_m_isHive (fun hh => ?_) (fun hh => ?_))
        · first
            | (exfalso; omega)
            | skip
              refine aK_i ?_
              refine aw_ifeq (tgt := 20) dX7_need_5 (by decide) (fun h => absurd h (by decide)) (fun _ => ?_)
              refine aw_iload_n dX7_need_8 rfl ?_
              refine aw_i2l dX7_need_9 ?_
              refine aw_lconst1 dX7_need_10 ?_
              refine aw_ldc2 (x := 30) dX7_need_11 q2030 (by decide) ?_
              refine c_X7_306 rfl dX7_need_14  (Nat.le_of_ble_eq_true rfl) (by omega) (C_m_isFrom (fun hfr => ?_) (fun hfr => ?_))
              · first
                  | (exfalso; omega)
                  | skip
                    refine aK_i ?_
                    refine aw_ifne (tgt := 26) dX7_need_17 (by decide) (fun _ => ?_) (fun h => absurd h (by decide))
                    refine aw_iconst dX7_need_26 (by decide) ?_
                    refine aw_istore3 dX7_need_27 (by decide) rfl ?_
                    refine L_m_need (a := a) (w := b) (R := (neeE (cpR (64 + 198 * a) 7380 198 (cm 1)) (cm 1 (64 + 198 * a)) (laK (cm 1) a) b.toNat 1001 0)) (by omega) (by omega) hti rfl gh.1 (by omega) ⟨hqa.1, hqb⟩ hla (by omega) (fun e8 ct3 x4 x5 x6 hM => ?_) (fun e8 ct3 x4 x5 x6 hM => ?_) 1001 0 0 cm _ _ _ (by omega) (by omega) rfl ⟨⟨HF, fun _ _ => rfl, dfr.rf⟩, fun _ _ => rfl⟩
                    · first
                        | exact absurd e9 e8
                        | (refine aw_aload_n dX7_need_113 rfl ?_
                           refine aw_iload_n dX7_need_114 rfl ?_
                           refine c_X7_76 rfl dX7_need_115 m_ob (Nat.le_of_ble_eq_true rfl) (by omega) (C_m_gives ?_)
                           refine aK_i ?_
                           refine aw_ireturn dX7_need_118 rfl ?_
                           refine XR.sameE h2 (by omega) ?_ ?_ ?_ ?_ ?_
                           · first
                               | exact hxs
                               | exact hxs.up (by decide)
                           · repeat (first | exact hM.ms | refine mss.up0 ?_ (by decide))
                           · first
                               | (rw [h7, aup_s]; done)
                               | (rw [aup_s, aup_s, hu, if_pos (by omega)]; done)
                               | (rw [aup_s, aup_s, hu]; rfl)
                           · (repeat rw [aup_n (by omega)]); rw [h8, hM.2.2.2 3 (by decide) (by decide) (by decide) (by decide)]
                           · (repeat rw [aup_n (by omega)]); rw [h9, hM.2.2.2 4 (by decide) (by decide) (by decide) (by decide)])
                    · first
                        | exact absurd e8 e9
                        | (refine aw_aload_n dX7_need_125 rfl ?_
                           refine aw_bipush dX7_need_126 (by decide) ?_
                           refine c_X7_72 rfl dX7_need_128 m_ob (Nat.le_of_ble_eq_true rfl) (by omega) (C_m_refuse ?_)
                           refine aK_i ?_
                           refine aw_ireturn dX7_need_131 rfl ?_
                           refine XR.sameE h2 (by omega) ?_ ?_ ?_ ?_ ?_
                           · first
                               | exact hxs
                               | exact hxs.up (by decide)
                           · repeat (first | exact hM.ms | refine mss.up0 ?_ (by decide))
                           · first
                               | (rw [h7, aup_s]; done)
                               | (rw [aup_s, aup_s, hu, if_pos (by omega)]; done)
                               | (rw [aup_s, aup_s, hu]; rfl)
                           · (repeat rw [aup_n (by omega)]); rw [h8, hM.2.2.2 3 (by decide) (by decide) (by decide) (by decide)]
                           · (repeat rw [aup_n (by omega)]); rw [h9, hM.2.2.2 4 (by decide) (by decide) (by decide) (by decide)])
              · first
                  | (exfalso; omega)
                  | skip
                    refine aK_i ?_
                    refine aw_ifne (tgt := 26) dX7_need_17 (by decide) (fun h => absurd h (by decide)) (fun _ => ?_)
                    refine aw_aload_n dX7_need_20 rfl ?_
                    refine aw_iconst dX7_need_21 (by decide) ?_
                    refine c_X7_72 rfl dX7_need_22 m_ob (Nat.le_of_ble_eq_true rfl) (by omega) (C_m_refuse ?_)
                    refine aK_i ?_
                    refine aw_ireturn dX7_need_25 rfl ?_
                    first
                      | (exfalso; omega)
                      | (refine XR.sameE h ?_ ?_ ?_ ?_ ?_ ?_
                         · first
                             | rfl
                             | omega
                         · repeat (first | exact xs.rf | refine xs.up ?_ (by decide))
                         · repeat (first | exact mss.rf | refine mss.up0 ?_ (by decide))
                         · first
                             | (simp [aup, hv2, hv3, hv4]; done)
                             | (simp [aup, hv2, hv3, hv4]; omega)
                         · simp [aup, hv2, hv3, hv4]
                         · simp [aup, hv2, hv3, hv4])
        · first
            | (exfalso; omega)
            | skip
              refine aK_i ?_
              refine aw_ifeq (tgt := 20) dX7_need_5 (by decide) (fun _ => ?_) (fun h => absurd h (by decide))
              refine aw_aload_n dX7_need_20 rfl ?_
              refine aw_iconst dX7_need_21 (by decide) ?_
              refine c_X7_72 rfl dX7_need_22 m_ob (Nat.le_of_ble_eq_true rfl) (by omega) (C_m_refuse ?_)
              refine aK_i ?_
              refine aw_ireturn dX7_need_25 rfl ?_
              first
                | (exfalso; omega)
                | (refine XR.sameE h ?_ ?_ ?_ ?_ ?_ ?_
                   · first
                       | rfl
                       | omega
                   · repeat (first | exact xs.rf | refine xs.up ?_ (by decide))
                   · repeat (first | exact mss.rf | refine mss.up0 ?_ (by decide))
                   · first
                       | (simp [aup, hv2, hv3, hv4]; done)
                       | (simp [aup, hv2, hv3, hv4]; omega)
                   · simp [aup, hv2, hv3, hv4]
                   · simp [aup, hv2, hv3, hv4])
    · refine aK_i ?_
      refine aw_ifeq (tgt := 25) dX0_need_18 (by decide) (fun _ => ?_) (fun h => absurd h (by decide))
      refine aw_iconst dX0_need_25 (by decide) ?_
      refine p_X0_73_0 rfl dX0_need_26 hR.o0 ?_
      refine aw_aload_n dX0_need_29 rfl ?_
      refine g_X0_73_0 rfl dX0_need_30 hR.o0 ?_
      repeat (first | rw [aup_s] | rw [aup_n (by omega)])
      refine aw_ifle (tgt := 38) dX0_need_33 (by decide) (fun h => absurd h (by decide)) (fun _ => ?_)
      refine aw_iconst dX0_need_36 (by decide) ?_
      refine aw_ireturn dX0_need_37 rfl ?_
      refine ⟨_, rfl, ?_⟩
      refine AMet.go (L := [some (vR 0), some (vI a), some (vI b), none, none, none, none]) mok_X7_need (Nat.le_of_ble_eq_true rfl) rfl ?_
      refine aw_aload_n dX7_need_0 rfl ?_
      refine aw_iload_n dX7_need_1 rfl ?_
      refine c_X7_274 rfl dX7_need_2 m_ob (Nat.le_of_ble_eq_true rfl) (by omega) (C_m_isHive (fun hh => ?_) (fun hh => ?_))
      · first
          | (exfalso; omega)
          | skip
            refine aK_i ?_
            refine aw_ifeq (tgt := 20) dX7_need_5 (by decide) (fun h => absurd h (by decide)) (fun _ => ?_)
            refine aw_iload_n dX7_need_8 rfl ?_
            refine aw_i2l dX7_need_9 ?_
            refine aw_lconst1 dX7_need_10 ?_
            refine aw_ldc2 (x := 30) dX7_need_11 q2030 (by decide) ?_
            refine c_X7_306 rfl dX7_need_14  (Nat.le_of_ble_eq_true rfl) (by omega) (C_m_isFrom (fun hfr => ?_) (fun hfr => ?_))
            · first
                | (exfalso; omega)
                | skip
                  refine aK_i ?_
                  refine aw_ifne (tgt := 26) dX7_need_17 (by decide) (fun _ => ?_) (fun h => absurd h (by decide))
                  refine aw_iconst dX7_need_26 (by decide) ?_
                  refine aw_istore3 dX7_need_27 (by decide) rfl ?_
                  refine L_m_need (a := a) (w := b) (R := (neeE (cpR (64 + 198 * a) 7380 198 (cm 1)) (cm 1 (64 + 198 * a)) (laK (cm 1) a) b.toNat 1001 0)) (by omega) (by omega) hti rfl gh.1 (by omega) ⟨hqa.1, hqb⟩ hla (by omega) (fun e8 ct3 x4 x5 x6 hM => ?_) (fun e8 ct3 x4 x5 x6 hM => ?_) 1001 0 0 cm _ _ _ (by omega) (by omega) rfl ⟨⟨HF, fun _ _ => rfl, dfr.rf⟩, fun _ _ => rfl⟩
                  · first
                      | exact absurd e9 e8
                      | (refine aw_aload_n dX7_need_113 rfl ?_
                         refine aw_iload_n dX7_need_114 rfl ?_
                         refine c_X7_76 rfl dX7_need_115 m_ob (Nat.le_of_ble_eq_true rfl) (by omega) (C_m_gives ?_)
                         refine aK_i ?_
                         refine aw_ireturn dX7_need_118 rfl ?_
                         refine XR.sameE h2 (by omega) ?_ ?_ ?_ ?_ ?_
                         · first
                             | exact hxs
                             | exact hxs.up (by decide)
                         · repeat (first | exact hM.ms | refine mss.up0 ?_ (by decide))
                         · first
                             | (rw [h7, aup_s]; done)
                             | (rw [aup_s, aup_s, hu, if_pos (by omega)]; done)
                             | (rw [aup_s, aup_s, hu]; rfl)
                         · (repeat rw [aup_n (by omega)]); rw [h8, hM.2.2.2 3 (by decide) (by decide) (by decide) (by decide)]
                         · (repeat rw [aup_n (by omega)]); rw [h9, hM.2.2.2 4 (by decide) (by decide) (by decide) (by decide)])
                  · first
                      | exact absurd e8 e9
                      | (refine aw_aload_n dX7_need_125 rfl ?_
                         refine aw_bipush dX7_need_126 (by decide) ?_
                         refine c_X7_72 rfl dX7_need_128 m_ob (Nat.le_of_ble_eq_true rfl) (by omega) (C_m_refuse ?_)
                         refine aK_i ?_
                         refine aw_ireturn dX7_need_131 rfl ?_
                         refine XR.sameE h2 (by omega) ?_ ?_ ?_ ?_ ?_
                         · first
                             | exact hxs
                             | exact hxs.up (by decide)
                         · repeat (first | exact hM.ms | refine mss.up0 ?_ (by decide))
                         · first
                             | (rw [h7, aup_s]; done)
                             | (rw [aup_s, aup_s, hu, if_pos (by omega)]; done)
                             | (rw [aup_s, aup_s, hu]; rfl)
                         · (repeat rw [aup_n (by omega)]); rw [h8, hM.2.2.2 3 (by decide) (by decide) (by decide) (by decide)]
                         · (repeat rw [aup_n (by omega)]); rw [h9, hM.2.2.2 4 (by decide) (by decide) (by decide) (by decide)])
            · first
                | (exfalso; omega)
                | skip
                  refine aK_i ?_
                  refine aw_ifne (tgt := 26) dX7_need_17 (by decide) (fun h => absurd h (by decide)) (fun _ => ?_)
                  refine aw_aload_n dX7_need_20 rfl ?_
                  refine aw_iconst dX7_need_21 (by decide) ?_
                  refine c_X7_72 rfl dX7_need_22 m_ob (Nat.le_of_ble_eq_true rfl) (by omega) (C_m_refuse ?_)
                  refine aK_i ?_
                  refine aw_ireturn dX7_need_25 rfl ?_
                  first
                    | (exfalso; omega)
                    | (refine XR.sameE h ?_ ?_ ?_ ?_ ?_ ?_
                       · first
                           | rfl
                           | omega
                       · repeat (first | exact xs.rf | refine xs.up ?_ (by decide))
                       · repeat (first | exact mss.rf | refine mss.up0 ?_ (by decide))
                       · first
                           | (simp [aup, hv2, hv3, hv4]; done)
                           | (simp [aup, hv2, hv3, hv4]; omega)
                       · simp [aup, hv2, hv3, hv4]
                       · simp [aup, hv2, hv3, hv4])
      · first
          | (exfalso; omega)
          | skip
            refine aK_i ?_
            refine aw_ifeq (tgt := 20) dX7_need_5 (by decide) (fun _ => ?_) (fun h => absurd h (by decide))
            refine aw_aload_n dX7_need_20 rfl ?_
            refine aw_iconst dX7_need_21 (by decide) ?_
            refine c_X7_72 rfl dX7_need_22 m_ob (Nat.le_of_ble_eq_true rfl) (by omega) (C_m_refuse ?_)
            refine aK_i ?_
            refine aw_ireturn dX7_need_25 rfl ?_
            first
              | (exfalso; omega)
              | (refine XR.sameE h ?_ ?_ ?_ ?_ ?_ ?_
                 · first
                     | rfl
                     | omega
                 · repeat (first | exact xs.rf | refine xs.up ?_ (by decide))
                 · repeat (first | exact mss.rf | refine mss.up0 ?_ (by decide))
                 · first
                     | (simp [aup, hv2, hv3, hv4]; done)
                     | (simp [aup, hv2, hv3, hv4]; omega)
                 · simp [aup, hv2, hv3, hv4]
                 · simp [aup, hv2, hv3, hv4])
  · refine aK_i ?_
    refine aw_ifeq (tgt := 25) dX0_need_6 (by decide) (fun _ => ?_) (fun h => absurd h (by decide))
    refine aw_iconst dX0_need_25 (by decide) ?_
    refine p_X0_73_0 rfl dX0_need_26 hR.o0 ?_
    refine aw_aload_n dX0_need_29 rfl ?_
    refine g_X0_73_0 rfl dX0_need_30 hR.o0 ?_
    repeat (first | rw [aup_s] | rw [aup_n (by omega)])
    refine aw_ifle (tgt := 38) dX0_need_33 (by decide) (fun h => absurd h (by decide)) (fun _ => ?_)
    refine aw_iconst dX0_need_36 (by decide) ?_
    refine aw_ireturn dX0_need_37 rfl ?_
    refine ⟨_, rfl, ?_⟩
    refine AMet.go (L := [some (vR 0), some (vI a), some (vI b), none, none, none, none]) mok_X7_need (Nat.le_of_ble_eq_true rfl) rfl ?_
    refine aw_aload_n dX7_need_0 rfl ?_
    refine aw_iload_n dX7_need_1 rfl ?_
    refine c_X7_274 rfl dX7_need_2 m_ob (Nat.le_of_ble_eq_true rfl) (by omega) (C_m_isHive (fun hh => ?_) (fun hh => ?_))
    · first
        | (exfalso; omega)
        | skip
          refine aK_i ?_
          refine aw_ifeq (tgt := 20) dX7_need_5 (by decide) (fun h => absurd h (by decide)) (fun _ => ?_)
          refine aw_iload_n dX7_need_8 rfl ?_
          refine aw_i2l dX7_need_9 ?_
          refine aw_lconst1 dX7_need_10 ?_
          refine aw_ldc2 (x := 30) dX7_need_11 q2030 (by decide) ?_
          refine c_X7_306 rfl dX7_need_14  (Nat.le_of_ble_eq_true rfl) (by omega) (C_m_isFrom (fun hfr => ?_) (fun hfr => ?_))
          · first
              | (exfalso; omega)
              | skip
                refine aK_i ?_
                refine aw_ifne (tgt := 26) dX7_need_17 (by decide) (fun _ => ?_) (fun h => absurd h (by decide))
                refine aw_iconst dX7_need_26 (by decide) ?_
                refine aw_istore3 dX7_need_27 (by decide) rfl ?_
                refine L_m_need (a := a) (w := b) (R := (neeE (cpR (64 + 198 * a) 7380 198 (cm 1)) (cm 1 (64 + 198 * a)) (laK (cm 1) a) b.toNat 1001 0)) (by omega) (by omega) hti rfl gh.1 (by omega) ⟨hqa.1, hqb⟩ hla (by omega) (fun e8 ct3 x4 x5 x6 hM => ?_) (fun e8 ct3 x4 x5 x6 hM => ?_) 1001 0 0 cm _ _ _ (by omega) (by omega) rfl ⟨⟨HF, fun _ _ => rfl, dfr.rf⟩, fun _ _ => rfl⟩
                · first
                    | exact absurd e9 e8
                    | (refine aw_aload_n dX7_need_113 rfl ?_
                       refine aw_iload_n dX7_need_114 rfl ?_
                       refine c_X7_76 rfl dX7_need_115 m_ob (Nat.le_of_ble_eq_true rfl) (by omega) (C_m_gives ?_)
                       refine aK_i ?_
                       refine aw_ireturn dX7_need_118 rfl ?_
                       refine XR.sameE h2 (by omega) ?_ ?_ ?_ ?_ ?_
                       · first
                           | exact hxs
                           | exact hxs.up (by decide)
                       · repeat (first | exact hM.ms | refine mss.up0 ?_ (by decide))
                       · first
                           | (rw [h7, aup_s]; done)
                           | (rw [aup_s, aup_s, hu, if_pos (by omega)]; done)
                           | (rw [aup_s, aup_s, hu]; rfl)
                       · (repeat rw [aup_n (by omega)]); rw [h8, hM.2.2.2 3 (by decide) (by decide) (by decide) (by decide)]
                       · (repeat rw [aup_n (by omega)]); rw [h9, hM.2.2.2 4 (by decide) (by decide) (by decide) (by decide)])
                · first
                    | exact absurd e8 e9
                    | (refine aw_aload_n dX7_need_125 rfl ?_
                       refine aw_bipush dX7_need_126 (by decide) ?_
                       refine c_X7_72 rfl dX7_need_128 m_ob (Nat.le_of_ble_eq_true rfl) (by omega) (C_m_refuse ?_)
                       refine aK_i ?_
                       refine aw_ireturn dX7_need_131 rfl ?_
                       refine XR.sameE h2 (by omega) ?_ ?_ ?_ ?_ ?_
                       · first
                           | exact hxs
                           | exact hxs.up (by decide)
                       · repeat (first | exact hM.ms | refine mss.up0 ?_ (by decide))
                       · first
                           | (rw [h7, aup_s]; done)
                           | (rw [aup_s, aup_s, hu, if_pos (by omega)]; done)
                           | (rw [aup_s, aup_s, hu]; rfl)
                       · (repeat rw [aup_n (by omega)]); rw [h8, hM.2.2.2 3 (by decide) (by decide) (by decide) (by decide)]
                       · (repeat rw [aup_n (by omega)]); rw [h9, hM.2.2.2 4 (by decide) (by decide) (by decide) (by decide)])
          · first
              | (exfalso; omega)
              | skip
                refine aK_i ?_
                refine aw_ifne (tgt := 26) dX7_need_17 (by decide) (fun h => absurd h (by decide)) (fun _ => ?_)
                refine aw_aload_n dX7_need_20 rfl ?_
                refine aw_iconst dX7_need_21 (by decide) ?_
                refine c_X7_72 rfl dX7_need_22 m_ob (Nat.le_of_ble_eq_true rfl) (by omega) (C_m_refuse ?_)
                refine aK_i ?_
                refine aw_ireturn dX7_need_25 rfl ?_
                first
                  | (exfalso; omega)
                  | (refine XR.sameE h ?_ ?_ ?_ ?_ ?_ ?_
                     · first
                         | rfl
                         | omega
                     · repeat (first | exact xs.rf | refine xs.up ?_ (by decide))
                     · repeat (first | exact mss.rf | refine mss.up0 ?_ (by decide))
                     · first
                         | (simp [aup, hv2, hv3, hv4]; done)
                         | (simp [aup, hv2, hv3, hv4]; omega)
                     · simp [aup, hv2, hv3, hv4]
                     · simp [aup, hv2, hv3, hv4])
    · first
        | (exfalso; omega)
        | skip
          refine aK_i ?_
          refine aw_ifeq (tgt := 20) dX7_need_5 (by decide) (fun _ => ?_) (fun h => absurd h (by decide))
          refine aw_aload_n dX7_need_20 rfl ?_
          refine aw_iconst dX7_need_21 (by decide) ?_
          refine c_X7_72 rfl dX7_need_22 m_ob (Nat.le_of_ble_eq_true rfl) (by omega) (C_m_refuse ?_)
          refine aK_i ?_
          refine aw_ireturn dX7_need_25 rfl ?_
          first
            | (exfalso; omega)
            | (refine XR.sameE h ?_ ?_ ?_ ?_ ?_ ?_
               · first
                   | rfl
                   | omega
               · repeat (first | exact xs.rf | refine xs.up ?_ (by decide))
               · repeat (first | exact mss.rf | refine mss.up0 ?_ (by decide))
               · first
                   | (simp [aup, hv2, hv3, hv4]; done)
                   | (simp [aup, hv2, hv3, hv4]; omega)
               · simp [aup, hv2, hv3, hv4]
               · simp [aup, hv2, hv3, hv4])
