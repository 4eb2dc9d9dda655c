set_option maxRecDepth 100000
/-! seasons: an act, BeeYard, 2 -/
theorem C_x_can {own0 own1 : Int → Int} {sz : Int} {im : Int → aIm} {ct0 ct1 : Int → Int → Int} {y ya la l o : Int} {s0 N : Int → Int} {q : lvS} {Q : aPost} {r : Int} (hX : XL own0 own1 sz im ct0 ct1 y ya la l s0 N q) (hA : ACT sz im o q.1 r) (K : ∀ (own2 : Int → Int) (ct2 : Int → Int → Int), XL own0 own2 sz im ct0 ct2 y ya la l s0 N (canQ q r) → Q (.inl (some (vI (canB q r)))) (sz, im, ct2)) : AMet md_X14_can 7 0 0 [vR o, vR l] (sz, im, ct1) Q := by
  obtain ⟨ho, hrow, h0, h1, h2, h3, h4⟩ := hA
  have hY := hX.2.2.1
  have hV := hX.2.2.2.2.2.1
  have hLq := hX.2.2.2.2.2.2
  obtain ⟨hP, hs, hm, hb, hov, hlf⟩ := id hLq
  have b0 := hP.1
  have b3 := hP.2.1
  have hL := hX.lr
  have hya := hX.2.2.2.2.1
  have hy := hX.1.1
  have onl := hX.nl
  rcases hrow with ⟨e, a1, a2⟩ | ⟨e, a1, a2⟩ | ⟨e, a1, a2, a3⟩ | ⟨e, ⟨a1, a2, a3⟩, a4, a5, a6⟩ | ⟨e, a1, a2⟩ | ⟨e, a1, a2⟩ | e
  all_goals refine AMet.go (L := [some (vR o), some (vR l), none, none, none]) mok_X14_can (Nat.le_of_ble_eq_true rfl) rfl ?_
  · by_cases z : q.1 3 + q.1 (r + 1) ≤ 9999
    · have eA : actF q.1 r q.2.1 q.2.2.2.2.1 = (paD (q.1 (r + 1)).toNat q.1, q.2.1, q.2.2.2.2.1, 1) := by
        unfold actF
        rw [if_pos e, if_pos z]
      rw [canB, if_neg (by omega), eA] at K
      rw [canQ, if_neg (by omega), eA] at K
      refine aw_aload_n dX14_can_0 rfl ?_
      refine g_X14_27_13 rfl dX14_can_1 hV.1.1 ?_
      rw [hV.1.2]
      refine aw_astore2 dX14_can_4 (by decide) rfl ?_
      refine aw_aload_n dX14_can_5 rfl ?_
      refine g_X14_9_12 rfl dX14_can_6 ho ?_
      rw [show (im o).2.2 0 = 0 by rw [h0]; first | (rw [if_pos e]; done) | (rw [if_neg (by omega), e]; rfl)]
      refine aw_tabIn (tgt := 48) dX14_can_9 (by decide) (by decide) (off := 39) (by rfl) (by decide) ?_
      refine aw_aload_n dX14_can_48 rfl ?_
      refine aw_aload_n dX14_can_49 rfl ?_
      refine g_X14_15_12 rfl dX14_can_50 ho ?_
      rw [h1]
      refine c_X14_33 rfl dX14_can_53 hY.1 (Nat.le_of_ble_eq_true rfl) (by omega) (C_x_canPass hY b3 (by omega) (fun hc => ?_) (fun hc => ?_))
      · refine aK_i ?_
        refine aw_ifne (tgt := 61) dX14_can_56 (by decide) (fun _ => ?_) (fun h => absurd h (by decide))
        refine aw_aload_n dX14_can_61 rfl ?_
        refine aw_aload_n dX14_can_62 rfl ?_
        refine g_X14_15_12 rfl dX14_can_63 ho ?_
        rw [h1]
        refine c_X14_39 rfl dX14_can_66 hY.1 (Nat.le_of_ble_eq_true rfl) (by omega) (C_x_passes hY hL hya hy (by omega) (by omega) (fun j hj => (hP.paD (d := j) (by omega)).pd) (fun ct2 HY2 HL2 hl2 hf2 => ?_))
        refine aK_v ?_
        refine aw_iconst dX14_can_69 (by decide) ?_
        refine aw_zreturn dX14_can_70 rfl (Or.inr rfl) ?_
        exact K own1 ct2 (hX.yard ⟨fun _ _ => rfl, fun _ z => z⟩ HY2 (by dsimp only; rw [paD_3]; omega) (hl2.trans hya.symm) (fun x j hx => hf2 x j hx) (hP.paD (by omega)) (sK.pa hP (by omega)))
      · exact absurd z hc
    · have eA : actF q.1 r q.2.1 q.2.2.2.2.1 = (q.1, q.2.1, q.2.2.2.2.1, 0) := by
        unfold actF
        rw [if_pos e, if_neg z]
      rw [canB, if_neg (by omega), eA] at K
      rw [canQ, if_neg (by omega), eA] at K
      refine aw_aload_n dX14_can_0 rfl ?_
      refine g_X14_27_13 rfl dX14_can_1 hV.1.1 ?_
      rw [hV.1.2]
      refine aw_astore2 dX14_can_4 (by decide) rfl ?_
      refine aw_aload_n dX14_can_5 rfl ?_
      refine g_X14_9_12 rfl dX14_can_6 ho ?_
      rw [show (im o).2.2 0 = 0 by rw [h0]; first | (rw [if_pos e]; done) | (rw [if_neg (by omega), e]; rfl)]
      refine aw_tabIn (tgt := 48) dX14_can_9 (by decide) (by decide) (off := 39) (by rfl) (by decide) ?_
      refine aw_aload_n dX14_can_48 rfl ?_
      refine aw_aload_n dX14_can_49 rfl ?_
      refine g_X14_15_12 rfl dX14_can_50 ho ?_
      rw [h1]
      refine c_X14_33 rfl dX14_can_53 hY.1 (Nat.le_of_ble_eq_true rfl) (by omega) (C_x_canPass hY b3 (by omega) (fun hc => ?_) (fun hc => ?_))
      · exact absurd hc z
      · refine aK_i ?_
        refine aw_ifne (tgt := 61) dX14_can_56 (by decide) (fun h => absurd h (by decide)) (fun _ => ?_)
        refine aw_iconst dX14_can_59 (by decide) ?_
        refine aw_zreturn dX14_can_60 rfl (Or.inl rfl) ?_
        exact K own1 ct1 hX
  · have gk := hP.2.2.1 (q.1 (r + 1)) a1.1 a1.2
    have eA : actF q.1 r q.2.1 q.2.2.2.2.1 = (brK q.1 (q.1 (r + 1)) (q.1 (r + 2)), q.2.1, q.2.2.2.2.1, 1) := by
      unfold actF
      rw [if_neg (by omega), if_pos e]
    rw [canB, if_neg (by omega), eA] at K
    rw [canQ, if_neg (by omega), eA] at K
    refine aw_aload_n dX14_can_0 rfl ?_
    refine g_X14_27_13 rfl dX14_can_1 hV.1.1 ?_
    rw [hV.1.2]
    refine aw_astore2 dX14_can_4 (by decide) rfl ?_
    refine aw_aload_n dX14_can_5 rfl ?_
    refine g_X14_9_12 rfl dX14_can_6 ho ?_
    rw [show (im o).2.2 0 = 1 by rw [h0]; first | (rw [if_pos e]; done) | (rw [if_neg (by omega), e]; rfl)]
    refine aw_tabIn (tgt := 71) dX14_can_9 (by decide) (by decide) (off := 62) (by rfl) (by decide) ?_
    refine aw_aload_n dX14_can_71 rfl ?_
    refine aw_aload_n dX14_can_72 rfl ?_
    refine g_X14_15_12 rfl dX14_can_73 ho ?_
    rw [h1]
    refine aw_aload_n dX14_can_76 rfl ?_
    refine g_X14_18_12 rfl dX14_can_77 ho ?_
    rw [h2]
    refine c_X14_43 rfl dX14_can_80 hY.1 (Nat.le_of_ble_eq_true rfl) (by omega) (C_x_brings hY a1.1 a1.2 gk.1 gk.2.1 (by omega) (fun ct2 HY2 hl2 hf2 => ?_))
    refine aK_i ?_
    refine aw_pop dX14_can_83 rfl ?_
    refine aw_iconst dX14_can_84 (by decide) ?_
    refine aw_zreturn dX14_can_85 rfl (Or.inr rfl) ?_
    exact K own1 ct2 (hX.yard ⟨fun _ _ => rfl, fun _ z => z⟩ HY2 (by dsimp only; rw [brK_o a1.1 gk.1 (by omega)]) hl2 (fun x j hx => hf2 x j hx) (hP.brK a1.1 a1.2 a2.1) (sK.br hP a1.1 a1.2))
  · have gk := hP.2.2.1 (q.1 (r + 1)) a1.1 a1.2
    have gk1 := gk.1
    have eA : actF q.1 r q.2.1 q.2.2.2.2.1 = (haK q.1 (q.1 (r + 1)) (q.1 (r + 2)), q.2.1, q.2.2.2.2.1, 1) := by
      unfold actF
      rw [if_neg (by omega), if_neg (by omega), if_pos e]
    rw [canB, if_neg (by omega), eA] at K
    rw [canQ, if_neg (by omega), eA] at K
    refine aw_aload_n dX14_can_0 rfl ?_
    refine g_X14_27_13 rfl dX14_can_1 hV.1.1 ?_
    rw [hV.1.2]
    refine aw_astore2 dX14_can_4 (by decide) rfl ?_
    refine aw_aload_n dX14_can_5 rfl ?_
    refine g_X14_9_12 rfl dX14_can_6 ho ?_
    rw [show (im o).2.2 0 = 2 by rw [h0]; first | (rw [if_pos e]; done) | (rw [if_neg (by omega), e]; rfl)]
    refine aw_tabIn (tgt := 86) dX14_can_9 (by decide) (by decide) (off := 77) (by rfl) (by decide) ?_
    refine aw_aload_n dX14_can_86 rfl ?_
    refine aw_aload_n dX14_can_87 rfl ?_
    refine g_X14_15_12 rfl dX14_can_88 ho ?_
    rw [h1]
    refine aw_aload_n dX14_can_91 rfl ?_
    refine g_X14_18_12 rfl dX14_can_92 ho ?_
    rw [h2]
    refine c_X14_47 rfl dX14_can_95 hY.1 (Nat.le_of_ble_eq_true rfl) (by omega) (C_x_yharvests hY a1.1 a1.2 gk.1 gk.2.1 a2 a3 (fun ct2 HY2 hl2 hf2 => ?_))
    refine aK_i ?_
    refine aw_pop dX14_can_98 rfl ?_
    refine aw_iconst dX14_can_99 (by decide) ?_
    refine aw_zreturn dX14_can_100 rfl (Or.inr rfl) ?_
    exact K own1 ct2 (hX.yard ⟨fun _ _ => rfl, fun _ z => z⟩ HY2 (by dsimp only; rw [haK_o a1.1 a2 a3 gk1.2 (by omega)]) hl2 (fun x j hx => hf2 x j hx) (hP.haK a1.1 a1.2 a2 a3) (sK.ha hP a1.1 a1.2 a2 a3))
  · by_cases z : q.1 (r + 1) = q.1 (r + 3) ∧ q.1 (r + 2) = q.1 (r + 5)
    · have eA : actF q.1 r q.2.1 q.2.2.2.2.1 = (q.1, q.2.1, q.2.2.2.2.1, 0) := by
        unfold actF
        rw [if_neg (by omega), if_neg (by omega), if_neg (by omega), if_pos e, if_pos z]
      rw [canB, if_neg (by omega), eA] at K
      rw [canQ, if_neg (by omega), eA] at K
      refine aw_aload_n dX14_can_0 rfl ?_
      refine g_X14_27_13 rfl dX14_can_1 hV.1.1 ?_
      rw [hV.1.2]
      refine aw_astore2 dX14_can_4 (by decide) rfl ?_
      refine aw_aload_n dX14_can_5 rfl ?_
      refine g_X14_9_12 rfl dX14_can_6 ho ?_
      rw [show (im o).2.2 0 = 3 by rw [h0]; first | (rw [if_pos e]; done) | (rw [if_neg (by omega), e]; rfl)]
      refine aw_tabIn (tgt := 101) dX14_can_9 (by decide) (by decide) (off := 92) (by rfl) (by decide) ?_
      refine aw_aload_n dX14_can_101 rfl ?_
      refine g_X14_15_12 rfl dX14_can_102 ho ?_
      rw [h1]
      refine aw_aload_n dX14_can_105 rfl ?_
      refine g_X14_21_12 rfl dX14_can_106 ho ?_
      rw [h3]
      refine aw_icmpne (tgt := 125) dX14_can_109 (by decide) (fun h109 => ?_) (fun h109 => ?_)
      · exfalso; omega
      · refine aw_aload_n dX14_can_112 rfl ?_
        refine g_X14_18_12 rfl dX14_can_113 ho ?_
        rw [h2]
        refine aw_aload_n dX14_can_116 rfl ?_
        refine g_X14_24_12 rfl dX14_can_117 ho ?_
        rw [h4]
        refine aw_icmpne (tgt := 125) dX14_can_120 (by decide) (fun h120 => ?_) (fun h120 => ?_)
        · exfalso; omega
        · refine aw_iconst dX14_can_123 (by decide) ?_
          refine aw_zreturn dX14_can_124 rfl (Or.inl rfl) ?_
          exact K own1 ct1 hX
    · have eA : actF q.1 r q.2.1 q.2.2.2.2.1 = ((mvS (64 + 198 * q.1 (r + 1) + 6 + 16 * q.1 (r + 2)) (64 + 198 * q.1 (r + 3) + 6 + 16 * q.1 (r + 5)) 16 q.1), q.2.1, q.2.2.2.2.1, 1) := by
        unfold actF
        rw [if_neg (by omega), if_neg (by omega), if_neg (by omega), if_pos e, if_neg z]
      rw [canB, if_neg (by omega), eA] at K
      rw [canQ, if_neg (by omega), eA] at K
      have Ya := hY.2.2.2.2.2.2.2 (q.1 (r + 1)) a1.1 a1.2
      have Yb := hY.2.2.2.2.2.2.2 (q.1 (r + 3)) a4.1 a4.2
      have n1 := (hP.2.2.1 _ a1.1 a1.2).1
      have n2 := (hP.2.2.1 _ a4.1 a4.2).1
      have U9 := Ya.2.1.2.1 (q.1 (r + 2)) a2 a3
      have V9 := Yb.2.1.2.1 (q.1 (r + 5)) a5 a6
      have nya1 := aob_ne hY.1 Ya.1.2.1 (by decide)
      have nya2 := aob_ne hY.1 Yb.1.2.1 (by decide)
      obtain ⟨own', w1, w2, w3, w4, w5⟩ := hY.swapG (k := q.1 (r + 1)) (g := q.1 (r + 3)) (f := q.1 (r + 2)) (e := q.1 (r + 5)) (fun j j0 j1 => (hP.2.2.1 j j0 j1).1) a1.1 a1.2 a4.1 a4.2 ⟨a2, a3⟩ ⟨a5, a6⟩ (by omega) rfl rfl
      have KM := K own' _ (hX.yard ⟨w1, w2⟩ w5 (by dsimp only; rw [mvS_lo a1.1 (by omega) a4.1 (by omega) (by omega) (by omega) (by omega)]) (by rw [aup_rn nya2, aup_rn nya1]) (fun x j hx => by rw [aup_rn (fun z9 => hx (by rw [z9]; exact w4)), aup_rn (fun z9 => hx (by rw [z9]; exact w3))]) (hP.swap a1.1 a1.2 a4.1 a4.2 ⟨a2, a3⟩ ⟨a5, a6⟩) (sK.mv hP a1.1 a1.2 a4.1 a4.2 ⟨a2, a3⟩ ⟨a5, a6⟩))
      refine aw_aload_n dX14_can_0 rfl ?_
      refine g_X14_27_13 rfl dX14_can_1 hV.1.1 ?_
      rw [hV.1.2]
      refine aw_astore2 dX14_can_4 (by decide) rfl ?_
      refine aw_aload_n dX14_can_5 rfl ?_
      refine g_X14_9_12 rfl dX14_can_6 ho ?_
      rw [show (im o).2.2 0 = 3 by rw [h0]; first | (rw [if_pos e]; done) | (rw [if_neg (by omega), e]; rfl)]
      refine aw_tabIn (tgt := 101) dX14_can_9 (by decide) (by decide) (off := 92) (by rfl) (by decide) ?_
      refine aw_aload_n dX14_can_101 rfl ?_
      refine g_X14_15_12 rfl dX14_can_102 ho ?_
      rw [h1]
      refine aw_aload_n dX14_can_105 rfl ?_
      refine g_X14_21_12 rfl dX14_can_106 ho ?_
      rw [h3]
      refine aw_icmpne (tgt := 125) dX14_can_109 (by decide) (fun h109 => ?_) (fun h109 => ?_)
      · refine aw_aload_n dX14_can_125 rfl ?_
        refine g_X14_50_5 rfl dX14_can_126 hY.1 ?_
        refine aw_aload_n dX14_can_129 rfl ?_
        refine g_X14_15_12 rfl dX14_can_130 ho ?_
        rw [h1]
        refine aw_aaload dX14_can_133 hY.2.2.1 (by decide) (by omega) (by omega) ?_
        refine aw_aload_n dX14_can_134 rfl ?_
        refine g_X14_18_12 rfl dX14_can_135 ho ?_
        rw [h2]
        refine aw_aload_n dX14_can_138 rfl ?_
        refine g_X14_50_5 rfl dX14_can_139 hY.1 ?_
        refine aw_aload_n dX14_can_142 rfl ?_
        refine g_X14_21_12 rfl dX14_can_143 ho ?_
        rw [h3]
        refine aw_aaload dX14_can_146 hY.2.2.1 (by decide) (by omega) (by omega) ?_
        refine aw_aload_n dX14_can_147 rfl ?_
        refine g_X14_24_12 rfl dX14_can_148 ho ?_
        rw [h4]
        refine c_X14_54 rfl dX14_can_151  (Nat.le_of_ble_eq_true rfl) (by omega) (C_x_swaps Ya.1 Yb.1 a2 a3 a5 a6 U9 V9 ?_)
        refine aK_v ?_
        refine aw_iconst dX14_can_154 (by decide) ?_
        refine aw_zreturn dX14_can_155 rfl (Or.inr rfl) ?_
        exact KM
      · refine aw_aload_n dX14_can_112 rfl ?_
        refine g_X14_18_12 rfl dX14_can_113 ho ?_
        rw [h2]
        refine aw_aload_n dX14_can_116 rfl ?_
        refine g_X14_24_12 rfl dX14_can_117 ho ?_
        rw [h4]
        refine aw_icmpne (tgt := 125) dX14_can_120 (by decide) (fun h120 => ?_) (fun h120 => ?_)
        · refine aw_aload_n dX14_can_125 rfl ?_
          refine g_X14_50_5 rfl dX14_can_126 hY.1 ?_
          refine aw_aload_n dX14_can_129 rfl ?_
          refine g_X14_15_12 rfl dX14_can_130 ho ?_
          rw [h1]
          refine aw_aaload dX14_can_133 hY.2.2.1 (by decide) (by omega) (by omega) ?_
          refine aw_aload_n dX14_can_134 rfl ?_
          refine g_X14_18_12 rfl dX14_can_135 ho ?_
          rw [h2]
          refine aw_aload_n dX14_can_138 rfl ?_
          refine g_X14_50_5 rfl dX14_can_139 hY.1 ?_
          refine aw_aload_n dX14_can_142 rfl ?_
          refine g_X14_21_12 rfl dX14_can_143 ho ?_
          rw [h3]
          refine aw_aaload dX14_can_146 hY.2.2.1 (by decide) (by omega) (by omega) ?_
          refine aw_aload_n dX14_can_147 rfl ?_
          refine g_X14_24_12 rfl dX14_can_148 ho ?_
          rw [h4]
          refine c_X14_54 rfl dX14_can_151  (Nat.le_of_ble_eq_true rfl) (by omega) (C_x_swaps Ya.1 Yb.1 a2 a3 a5 a6 U9 V9 ?_)
          refine aK_v ?_
          refine aw_iconst dX14_can_154 (by decide) ?_
          refine aw_zreturn dX14_can_155 rfl (Or.inr rfl) ?_
          exact KM
        · exfalso; omega
  · have eA : actF q.1 r q.2.1 q.2.2.2.2.1 = ((bloF (q.1 (r + 1)) (q.1, q.2.1, q.2.2.2.2.1) (q.1 0).toNat).1, (bloF (q.1 (r + 1)) (q.1, q.2.1, q.2.2.2.2.1) (q.1 0).toNat).2.1, (bloF (q.1 (r + 1)) (q.1, q.2.1, q.2.2.2.2.1) (q.1 0).toNat).2.2, 1) := by
      unfold actF
      rw [if_neg (by omega), if_neg (by omega), if_neg (by omega), if_neg (by omega), if_pos e]
    rw [canB, if_neg (by omega), eA] at K
    rw [canQ, if_neg (by omega), eA] at K
    refine aw_aload_n dX14_can_0 rfl ?_
    refine g_X14_27_13 rfl dX14_can_1 hV.1.1 ?_
    rw [hV.1.2]
    refine aw_astore2 dX14_can_4 (by decide) rfl ?_
    refine aw_aload_n dX14_can_5 rfl ?_
    refine g_X14_9_12 rfl dX14_can_6 ho ?_
    rw [show (im o).2.2 0 = 4 by rw [h0]; first | (rw [if_pos e]; done) | (rw [if_neg (by omega), e]; rfl)]
    refine aw_tabIn (tgt := 156) dX14_can_9 (by decide) (by decide) (off := 147) (by rfl) (by decide) ?_
    refine aw_iconst dX14_can_156 (by decide) ?_
    refine aw_istore3 dX14_can_157 (by decide) rfl ?_
    exact L_x_bloom (ct1 := ct1) (a := q.1 (r + 1)) (by omega) ho h1 ⟨a1, a2⟩ hLq (fun ct2 hX2 => K own1 ct2 hX2) (q.1 0).toNat 0 ct1 _ (by omega) hX
  · by_cases z : mst q.1 (q.1 (r + 1)) (q.1 (r + 2))
    · have eA : actF q.1 r q.2.1 q.2.2.2.2.1 = (upA q.1 (64 + 198 * q.1 (r + 2) + 3) (q.1 (r + 1)), q.2.1, q.2.2.2.2.1, 1) := by
        unfold actF
        rw [if_neg (by omega), if_neg (by omega), if_neg (by omega), if_neg (by omega), if_neg (by omega), if_pos z]
      rw [canB, if_neg (by omega), eA] at K
      rw [canQ, if_neg (by omega), eA] at K
      have Yb := hY.2.2.2.2.2.2.2 (q.1 (r + 2)) a2.1 a2.2
      have nyb := aob_nec hY.1 Yb.1.1 (by decide)
      have ob := Yb.2.2.2.2.1
      have H5 := hY.hfld (k := q.1 (r + 2)) (a := ct1 ((im ya).2.2 1) (q.1 (r + 2))) (j := 5) (v := q.1 (r + 1)) a2.1 a2.2 rfl (by omega)
      have KM := K own1 _ (hX.yard ⟨fun _ _ => rfl, fun _ z => z⟩ H5 (by dsimp only; rw [upA_n (by omega)]) (by rw [aup_rn nyb]) (fun x j hx => by rw [aup_rn (fun z9 => hx (by rw [z9, ob]; exact ⟨by omega, by omega⟩))]) (hP.seat a2.1 a2.2 a1.1 a1.2) (sK.se hP a2.1 a2.2))
      refine aw_aload_n dX14_can_0 rfl ?_
      refine g_X14_27_13 rfl dX14_can_1 hV.1.1 ?_
      rw [hV.1.2]
      refine aw_astore2 dX14_can_4 (by decide) rfl ?_
      refine aw_aload_n dX14_can_5 rfl ?_
      refine g_X14_9_12 rfl dX14_can_6 ho ?_
      rw [show (im o).2.2 0 = 5 by rw [h0]; first | (rw [if_pos e]; done) | (rw [if_neg (by omega), e]; rfl)]
      refine aw_tabIn (tgt := 216) dX14_can_9 (by decide) (by decide) (off := 207) (by rfl) (by decide) ?_
      refine aw_aload_n dX14_can_216 rfl ?_
      refine aw_aload_n dX14_can_217 rfl ?_
      refine g_X14_15_12 rfl dX14_can_218 ho ?_
      rw [h1]
      refine aw_aload_n dX14_can_221 rfl ?_
      refine g_X14_18_12 rfl dX14_can_222 ho ?_
      rw [h2]
      refine c_X14_73 rfl dX14_can_225 hY.1 (Nat.le_of_ble_eq_true rfl) (by omega) (C_x_canSeat hY a2.1 a2.2 (fun hc => ?_) (fun hc => ?_))
      · refine aK_i ?_
        refine aw_ifne (tgt := 233) dX14_can_228 (by decide) (fun _ => ?_) (fun h => absurd h (by decide))
        refine aw_aload_n dX14_can_233 rfl ?_
        refine g_X14_50_5 rfl dX14_can_234 hY.1 ?_
        refine aw_aload_n dX14_can_237 rfl ?_
        refine g_X14_18_12 rfl dX14_can_238 ho ?_
        rw [h2]
        refine aw_aaload dX14_can_241 hY.2.2.1 (by decide) (by omega) (by omega) ?_
        refine aw_aload_n dX14_can_242 rfl ?_
        refine g_X14_15_12 rfl dX14_can_243 ho ?_
        rw [h1]
        refine p_X14_77_9 rfl dX14_can_246 Yb.1.1 ?_
        refine aw_iconst dX14_can_249 (by decide) ?_
        refine aw_zreturn dX14_can_250 rfl (Or.inr rfl) ?_
        exact KM
      · exact absurd ⟨z.1, z.2.1, by have := z.2.2; omega⟩ hc
    · have eA : actF q.1 r q.2.1 q.2.2.2.2.1 = (q.1, q.2.1, q.2.2.2.2.1, 0) := by
        unfold actF
        rw [if_neg (by omega), if_neg (by omega), if_neg (by omega), if_neg (by omega), if_neg (by omega), if_neg z]
      rw [canB, if_neg (by omega), eA] at K
      rw [canQ, if_neg (by omega), eA] at K
      have gq := (hP.2.2.1 (q.1 (r + 2)) a2.1 a2.2).2.2.2.2.1
      refine aw_aload_n dX14_can_0 rfl ?_
      refine g_X14_27_13 rfl dX14_can_1 hV.1.1 ?_
      rw [hV.1.2]
      refine aw_astore2 dX14_can_4 (by decide) rfl ?_
      refine aw_aload_n dX14_can_5 rfl ?_
      refine g_X14_9_12 rfl dX14_can_6 ho ?_
      rw [show (im o).2.2 0 = 5 by rw [h0]; first | (rw [if_pos e]; done) | (rw [if_neg (by omega), e]; rfl)]
      refine aw_tabIn (tgt := 216) dX14_can_9 (by decide) (by decide) (off := 207) (by rfl) (by decide) ?_
      refine aw_aload_n dX14_can_216 rfl ?_
      refine aw_aload_n dX14_can_217 rfl ?_
      refine g_X14_15_12 rfl dX14_can_218 ho ?_
      rw [h1]
      refine aw_aload_n dX14_can_221 rfl ?_
      refine g_X14_18_12 rfl dX14_can_222 ho ?_
      rw [h2]
      refine c_X14_73 rfl dX14_can_225 hY.1 (Nat.le_of_ble_eq_true rfl) (by omega) (C_x_canSeat hY a2.1 a2.2 (fun hc => ?_) (fun hc => ?_))
      · exact absurd ⟨hc.1, hc.2.1, by have := hc.2.2; omega⟩ z
      · refine aK_i ?_
        refine aw_ifne (tgt := 233) dX14_can_228 (by decide) (fun h => absurd h (by decide)) (fun _ => ?_)
        refine aw_iconst dX14_can_231 (by decide) ?_
        refine aw_zreturn dX14_can_232 rfl (Or.inl rfl) ?_
        exact K own1 ct1 hX
  · rw [canB, if_pos e, canQ, if_pos e] at K
    refine aw_aload_n dX14_can_0 rfl ?_
    refine g_X14_27_13 rfl dX14_can_1 hV.1.1 ?_
    rw [hV.1.2]
    refine aw_astore2 dX14_can_4 (by decide) rfl ?_
    refine aw_aload_n dX14_can_5 rfl ?_
    refine g_X14_9_12 rfl dX14_can_6 ho ?_
    rw [show (im o).2.2 0 = 6 by rw [h0]; first | (rw [if_pos e]; done) | (rw [if_neg (by omega), e]; rfl)]
    refine aw_tabOut (tgt := 251) dX14_can_9 (by decide) (by decide) ?_
    refine aw_aload_n dX14_can_251 rfl ?_
    refine aw_iconst dX14_can_252 (by decide) ?_
    refine p_X14_80_13 rfl dX14_can_253 hV.1.1 (Or.inr rfl) ?_
    refine aw_iconst dX14_can_256 (by decide) ?_
    refine aw_zreturn dX14_can_257 rfl (Or.inr rfl) ?_
    exact K own1 _ (hX.liv (fun x j hx => aup_rn_a hx) ⟨by rw [aup_n (by omega)]; exact hV.2.1, by rw [aup_n (by omega)]; exact hV.2.2.1, by rw [aup_n (by omega)]; exact hV.2.2.2.1, by rw [aup_n (by omega)]; exact hV.2.2.2.2.1, by rw [aup_s], by rw [aup_n (by omega)]; exact hV.2.2.2.2.2.2⟩ rfl ⟨hP, hs, hm, hb, Or.inr rfl, hlf⟩)
