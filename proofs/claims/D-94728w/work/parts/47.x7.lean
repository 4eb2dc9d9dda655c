set_option maxRecDepth 100000
/-! BeeYard, 7: days, honey and harvests of a yard -/
theorem L_x_pas2 {own : Int → Int} {y sz : Int} {im : Int → aIm} {ct : Int → Int → Int} {ya dd la w : Int} {s N : Int → Int} {Q : aPost} {d kc ks : Nat} (hd : 6 ≤ d) (hy : 0 ≤ y) (hw : 0 ≤ w ∧ w ≤ 10000) (hdd : 0 ≤ dd ∧ dd ≤ 10000) (hP : ∀ j : Nat, (j : Int) < w → PD (paD j s))
    (hQ : ∀ (ct' : Int → Int → Int), YR own y sz im ct' ya (paD w.toNat s) (dd + w) N → LR own sz im ct' la s N → ct' ya 0 = la → (∀ x j, ¬ (10 * y ≤ own x ∧ own x < 10 * y + 10) → ct' x j = ct x j) → Q (.inl none) (sz, im, ct')) :
    ∀ (r i : Nat) (ct1 : Int → Int → Int) (x3 : Option aV), (i : Int) + r = w → YR own y sz im ct1 ya (paD i s) dd N → LR own sz im ct1 la s N → ct1 ya 0 = la → (∀ x j, ¬ (10 * y ≤ own x ∧ own x < 10 * y + 10) → ct1 x j = ct x j) →
    AW (mq Q) md_X5_passes d kc ks 2 [some (vR ya), some (vI w), some (vI i), x3] [] (sz, im, ct1) := by
  intro r
  induction r with
  | zero =>
    intro i ct1 x3 g1 H HL hl hs
    have yne := H.1
    obtain ⟨h1, h2, h3, h4, h5, ⟨b1, b2, b3, b4, b5, b6, b7, b8⟩, ⟨b9, b10⟩, h8⟩ := id H
    refine aw_iload_n dX5_passes_2 rfl ?_
    refine aw_iload_n dX5_passes_3 rfl ?_
    refine aw_icmpge (tgt := 102) dX5_passes_4 (by decide) (fun h4 => ?_) (fun h4 => ?_)
    · refine aw_aload_n dX5_passes_102 rfl ?_
      refine aw_dup dX5_passes_103 rfl ?_
      refine g_X5_47_5 rfl dX5_passes_104 h1 ?_
      rw [b2]
      refine aw_iload_n dX5_passes_107 rfl ?_
      refine aw_iaddr dX5_passes_108 (by omega) ?_
      refine p_X5_47_5 rfl dX5_passes_109 h1 ?_
      refine aw_ret dX5_passes_112 rfl ?_
      have ei : w.toNat = i := by omega
      refine hQ _ ?_ (HL.frame fun x j hx => ?_) ?_ (fun x j hx => ?_)
      · rw [ei]
        refine H.scal (fun x j hx => aup_n fun z => hx z.1) (fun _ _ => rfl) rfl ⟨?_, ?_, ?_, ?_, ?_, ?_, ?_, ?_⟩ ⟨?_, fun z => ?_⟩
        · rw [aup_n (by omega)]; exact b1
        · rw [aup_s]
        · rw [aup_n (by omega)]; exact b3
        · rw [aup_n (by omega)]; exact b4
        · rw [aup_n (by omega)]; exact b5
        · rw [aup_n (by omega)]; exact b6
        · rw [aup_n (by omega)]; exact b7
        · rw [aup_n (by omega)]; exact b8
        · rw [aup_n (by omega)]; exact b9
        · rw [aup_n (by omega)]; exact b10 z
      · exact aup_n fun z => by rw [z.1] at hx; omega
      · rw [aup_n (by omega)]; exact hl
      · rw [aup_n fun z => hx (by rw [z.1]; omega)]; exact hs x j hx
    · exfalso; omega
  | succ r ih =>
    intro i ct1 x3 g1 H HL hl hs
    have hPi := hP i (by omega)
    have lo := paD_lo (s := s) (d := i) (fun j hj => hP j (by omega))
    refine aw_iload_n dX5_passes_2 rfl ?_
    refine aw_iload_n dX5_passes_3 rfl ?_
    refine aw_icmpge (tgt := 102) dX5_passes_4 (by decide) (fun h4 => ?_) (fun h4 => ?_)
    · exfalso; omega
    · refine aw_iconst dX5_passes_7 (by decide) ?_
      refine aw_istore3 dX5_passes_8 (by decide) rfl ?_
      refine L_x_pas1 (k := 0) (ct := ct1) (la := la) hd hy hPi (fun ct2 k2 H2 HL2 hl2 hs2 => ?_) (paD i s 0).toNat ct1 (by have := hPi.1; omega) H (HL.row (lo 1 (by omega) (by omega) (by omega) (by omega) (by omega)) (lo 2 (by omega) (by omega) (by omega) (by omega) (by omega)) (fun q q0 q1 => lo q (by omega) (by omega) (by omega) (by omega) (by omega))) hl (fun _ _ _ => rfl)
      refine aw_iinc2r dX5_passes_96 (by decide) (by decide) rfl (by omega) ?_
      refine aw_goto (tgt := 2) dX5_passes_99 (by decide) ?_
      refine ih (i + 1) _ _ (by omega) (H2.ext fun q q0 q1 q3 => upA_n q3) (HL2.row (lo 1 (by omega) (by omega) (by omega) (by omega) (by omega)).symm (lo 2 (by omega) (by omega) (by omega) (by omega) (by omega)).symm (fun q q0 q1 => (lo q (by omega) (by omega) (by omega) (by omega) (by omega)).symm)) hl2 (fun x j hx => ?_)
      rw [hs2 x j hx]; exact hs x j hx
theorem C_x_passes {own : Int → Int} {y sz : Int} {im : Int → aIm} {ct : Int → Int → Int} {ya dd : Int} {s N : Int → Int} {la w : Int} {Q : aPost} (H : YR own y sz im ct ya s dd N)(HL : LR own sz im ct la s N) (hl : ct ya 0 = la) (hy : 0 ≤ y) (hw : 0 ≤ w ∧ w ≤ 10000) (hdd : 0 ≤ dd ∧ dd ≤ 10000) (hP : ∀ j : Nat, (j : Int) < w → PD (paD j s))
    (hQ : ∀ (ct' : Int → Int → Int), YR own y sz im ct' ya (paD w.toNat s) (dd + w) N → LR own sz im ct' la s N → ct' ya 0 = la → (∀ x j, ¬ (10 * y ≤ own x ∧ own x < 10 * y + 10) → ct' x j = ct x j) → Q (.inl none) (sz, im, ct')) : AMet md_X5_passes 6 0 0 [vR ya, vI w] (sz, im, ct) Q := by
  refine AMet.go (L := [some (vR ya), some (vI w), none, none]) mok_X5_passes (Nat.le_of_ble_eq_true rfl) rfl ?_
  refine aw_iconst dX5_passes_0 (by decide) ?_
  refine aw_istore2 dX5_passes_1 (by decide) rfl ?_
  exact L_x_pas2 (ct := ct) (by omega) hy hw hdd hP hQ w.toNat 0 ct _ (by omega) H HL hl (fun _ _ _ => rfl)
theorem C_x_brings {own : Int → Int} {y sz : Int} {im : Int → aIm} {ct : Int → Int → Int} {ya dd : Int} {s N : Int → Int} {k t : Int} {Q : aPost} (H : YR own y sz im ct ya s dd N)(k0 : 0 ≤ k) (k1 : k < s 0) (hn : 1 ≤ s (64 + 198 * k) ∧ s (64 + 198 * k) ≤ 12) (hr : rgF (s (64 + 198 * k)) (sh (64 + 198 * k) s)) (ht : 0 ≤ t ∧ t < 2147483648)
    (hQ : ∀ (ct' : Int → Int → Int), YR own y sz im ct' ya (brK s k t) dd N → ct' ya 0 = ct ya 0 → (∀ x j, ¬ (10 * y ≤ own x ∧ own x < 10 * y + 10) → ct' x j = ct x j) → Q (.inl (some (vI (stL s (64 + 198 * k) t)))) (sz, im, ct')) : AMet md_X5_brings 4 0 0 [vR ya, vI k, vI t] (sz, im, ct) Q := by
  refine AMet.go (L := [some (vR ya), some (vI k), some (vI t), none]) mok_X5_brings (Nat.le_of_ble_eq_true rfl) rfl ?_
  obtain ⟨h1, h2, h3, h4, h5, ⟨b1, b2, b3, b4, b5, b6, b7, b8⟩, ⟨b9, b10⟩, h8⟩ := id H
  have hYH := h8 k k0 k1
  obtain ⟨k1', k2, k3, k4, k5, k6, k7, k8⟩ := id hYH
  have hY1 : ya ≠ ct ((im ya).2.2 1) k := fun e => by have := k5; rw [← e] at this; omega
  have hN1 : ¬ hvf im ct (ct ((im ya).2.2 1) k) (s (64 + 198 * k)) ya := (hYH.own (x := ya) (by omega)).2
  have hNs := hvf_self k1' k2
  refine aw_aload_n dX5_brings_0 rfl ?_
  refine g_X5_20_5 rfl dX5_brings_1 h1 ?_
  refine aw_iload_n dX5_brings_4 rfl ?_
  refine aw_aaload dX5_brings_5 h3 (by decide) (by omega) (by omega) ?_
  refine aw_iload_n dX5_brings_6 rfl ?_
  refine c_X5_90 rfl dX5_brings_7 k1'.1 (Nat.le_of_ble_eq_true rfl) (by omega) (C_x_stores k1' k2 hr ht (fun ct2 c2 hC2 e2 hs2 hg2 => ?_))
  have w1 : ∀ j, ct2 ya j = ct ya j := fun j => hs2 ya j hN1
  refine aK_i ?_
  refine aw_istore3 dX5_brings_10 (by decide) rfl ?_
  refine aw_aload_n dX5_brings_11 rfl ?_
  refine aw_dup dX5_brings_12 rfl ?_
  refine g_X5_65_5 rfl dX5_brings_13 h1 ?_
  rw [w1, b8]
  refine aw_iload_n dX5_brings_16 rfl ?_
  refine aw_iadd dX5_brings_17 ?_
  refine p_X5_65_5 rfl dX5_brings_18 h1 ?_
  refine aw_aload_n dX5_brings_21 rfl ?_
  refine aw_dup dX5_brings_22 rfl ?_
  refine g_X5_56_5 rfl dX5_brings_23 h1 ?_
  rw [aup_n (by omega), w1, b5]
  refine aw_iload_n dX5_brings_26 rfl ?_
  refine aw_iadd dX5_brings_27 ?_
  refine p_X5_56_5 rfl dX5_brings_28 h1 ?_
  refine aw_iload_n dX5_brings_31 rfl ?_
  refine aw_ireturn dX5_brings_32 rfl ?_
  have hh : s (64 + 198 * k) ≤ 12 := hn.2
  have HY2 : YR own y sz im ct2 ya (stK s (64 + 198 * k) t) dd N := by
    refine H.hive k0 k1 (fun x j hx => hs2 x j (hYH.own hx).2) (fun i hi => stK_o (by omega) (by omega)) (hYH.set hC2 hg2 (stK_o (by omega) (by omega)) (fun i i0 i1 => ?_) ?_ ?_ ?_ ?_ ?_)
    · rw [stK_f]; exact e2 i i0 i1
    · rw [hs2 _ _ hNs, k3.1, stK_o (by omega) (by omega)]
    · rw [hs2 _ _ hNs, k3.2.1, stK_o (by omega) (by omega)]
    · rw [hs2 _ _ hNs, k3.2.2.1, stK_o (by omega) (by omega)]
    · rw [hs2 _ _ hNs, k3.2.2.2.1, stK_o (by omega) (by omega)]
    · rw [hs2 _ _ hNs, k3.2.2.2.2, stK_o (by omega) (by omega)]
  refine hQ _ (HY2.scal (fun x j hx => by rw [aup_rn hx, aup_rn hx]) (fun i hi => ?_) ?_ ⟨?_, ?_, ?_, ?_, ?_, ?_, ?_, ?_⟩ ⟨?_, fun z => ?_⟩) ?_ (fun x j hx => ?_)
  · unfold brK; rw [upA_n (by omega), upA_n (by omega)]
  · unfold brK; rw [upA_n (by omega), upA_n (by omega)]
  · rw [aup_n (by omega), aup_n (by omega), w1, brK_o (by omega) hn (by omega)]; exact b1
  · rw [aup_n (by omega), aup_n (by omega), w1]; exact b2
  · rw [aup_n (by omega), aup_n (by omega), w1, brK_o (by omega) hn (by omega)]; exact b3
  · rw [aup_n (by omega), aup_n (by omega), w1, brK_o (by omega) hn (by omega)]; exact b4
  · rw [aup_s]; unfold brK; rw [upA_s]; rfl
  · rw [aup_n (by omega), aup_n (by omega), w1, brK_o (by omega) hn (by omega)]; exact b6
  · rw [aup_n (by omega), aup_n (by omega), w1, brK_o (by omega) hn (by omega)]; exact b7
  · rw [aup_n (by omega), aup_s]; unfold brK; rw [upA_n (by omega), upA_s]
  · rw [aup_n (by omega), aup_n (by omega), w1, brK_o (by omega) hn (by omega)]; exact b9
  · rw [brK_o (by omega) hn (by omega)] at z
    rw [aup_n (by omega), aup_n (by omega), w1, brK_o (by omega) hn (by omega)]; exact b10 z
  · rw [aup_n (by omega), aup_n (by omega), w1]
  · have hxa : x ≠ ya := fun e => hx (by rw [e]; omega)
    rw [aup_rn hxa, aup_rn hxa]
    exact hs2 x j (hYH.own (x := x) (by omega)).2
theorem C_x_yharvests {own : Int → Int} {y sz : Int} {im : Int → aIm} {ct : Int → Int → Int} {ya dd : Int} {s N : Int → Int} {k f : Int} {Q : aPost} (H : YR own y sz im ct ya s dd N)(k0 : 0 ≤ k) (k1 : k < s 0) (hn : 1 ≤ s (64 + 198 * k) ∧ s (64 + 198 * k) ≤ 12) (hr : rgF (s (64 + 198 * k)) (sh (64 + 198 * k) s)) (f0 : 0 ≤ f) (f1 : f < s (64 + 198 * k))
    (hQ : ∀ (ct' : Int → Int → Int), YR own y sz im ct' ya (haK s k f) dd N → ct' ya 0 = ct ya 0 → (∀ x j, ¬ (10 * y ≤ own x ∧ own x < 10 * y + 10) → ct' x j = ct x j) → Q (.inl (some (vI (harN f 16 (sh (64 + 198 * k) s))))) (sz, im, ct')) : AMet md_X5_harvests 4 0 0 [vR ya, vI k, vI f] (sz, im, ct) Q := by
  refine AMet.go (L := [some (vR ya), some (vI k), some (vI f), none]) mok_X5_harvests (Nat.le_of_ble_eq_true rfl) rfl ?_
  obtain ⟨h1, h2, h3, h4, h5, ⟨b1, b2, b3, b4, b5, b6, b7, b8⟩, ⟨b9, b10⟩, h8⟩ := id H
  have hYH := h8 k k0 k1
  obtain ⟨k1', k2, k3, k4, k5, k6, k7, k8⟩ := id hYH
  have hY1 : ya ≠ ct ((im ya).2.2 1) k := fun e => by have := k5; rw [← e] at this; omega
  have hN1 : ¬ hvf im ct (ct ((im ya).2.2 1) k) (s (64 + 198 * k)) ya := (hYH.own (x := ya) (by omega)).2
  have hNs := hvf_self k1' k2
  refine aw_aload_n dX5_harvests_0 rfl ?_
  refine g_X5_20_5 rfl dX5_harvests_1 h1 ?_
  refine aw_iload_n dX5_harvests_4 rfl ?_
  refine aw_aaload dX5_harvests_5 h3 (by decide) (by omega) (by omega) ?_
  refine aw_iload_n dX5_harvests_6 rfl ?_
  refine c_X5_94 rfl dX5_harvests_7 k1'.1 (Nat.le_of_ble_eq_true rfl) (by omega) (C_x_harvests k1' k2 hr f0 f1 (fun ct2 hC2 hs2 hg2 => ?_))
  have w1 : ∀ j, ct2 ya j = ct ya j := fun j => hs2 ya j hN1
  refine aK_i ?_
  refine aw_istore3 dX5_harvests_10 (by decide) rfl ?_
  refine aw_aload_n dX5_harvests_11 rfl ?_
  refine aw_dup dX5_harvests_12 rfl ?_
  refine g_X5_50_5 rfl dX5_harvests_13 h1 ?_
  rw [w1, b3]
  refine aw_iload_n dX5_harvests_16 rfl ?_
  refine aw_iadd dX5_harvests_17 ?_
  refine p_X5_50_5 rfl dX5_harvests_18 h1 ?_
  refine aw_iload_n dX5_harvests_21 rfl ?_
  refine aw_ireturn dX5_harvests_22 rfl ?_
  have hh : s (64 + 198 * k) ≤ 12 := hn.2
  have HY2 : YR own y sz im ct2 ya (us (64 + 198 * k) (harC f 16 (sh (64 + 198 * k) s))) dd N := by
    have ho : ∀ i, (i < 64 + 198 * k + 6 ∨ 64 + 198 * k + 6 + 16 * s (64 + 198 * k) ≤ i) → us (64 + 198 * k) (harC f 16 (sh (64 + 198 * k) s)) i = s i := fun i hi => us_o (n := s (64 + 198 * k)) (fun j hj => by unfold harC; rw [if_neg (by omega)]) hi
    refine H.hive k0 k1 (fun x j hx => hs2 x j (hYH.own hx).2) (fun i hi => ho i (by omega)) (hYH.set hC2 hg2 (ho _ (by omega)) (fun i i0 i1 => ?_) ?_ ?_ ?_ ?_ ?_)
    · rw [sh_us]
    · rw [hs2 _ _ hNs, k3.1, ho _ (by omega)]
    · rw [hs2 _ _ hNs, k3.2.1, ho _ (by omega)]
    · rw [hs2 _ _ hNs, k3.2.2.1, ho _ (by omega)]
    · rw [hs2 _ _ hNs, k3.2.2.2.1, ho _ (by omega)]
    · rw [hs2 _ _ hNs, k3.2.2.2.2, ho _ (by omega)]
  refine hQ _ (HY2.scal (fun x j hx => by rw [aup_rn hx]) (fun i hi => ?_) ?_ ⟨?_, ?_, ?_, ?_, ?_, ?_, ?_, ?_⟩ ⟨?_, fun z => ?_⟩) ?_ (fun x j hx => ?_)
  · unfold haK; rw [upA_n (by omega)]
  · unfold haK; rw [upA_n (by omega)]
  · rw [aup_n (by omega), w1, haK_o (by omega) f0 f1 hh (by omega)]; exact b1
  · rw [aup_n (by omega), w1]; exact b2
  · rw [aup_s]; unfold haK; rw [upA_s]
  · rw [aup_n (by omega), w1, haK_o (by omega) f0 f1 hh (by omega)]; exact b4
  · rw [aup_n (by omega), w1, haK_o (by omega) f0 f1 hh (by omega)]; exact b5
  · rw [aup_n (by omega), w1, haK_o (by omega) f0 f1 hh (by omega)]; exact b6
  · rw [aup_n (by omega), w1, haK_o (by omega) f0 f1 hh (by omega)]; exact b7
  · rw [aup_n (by omega), w1, haK_o (by omega) f0 f1 hh (by omega)]; exact b8
  · rw [aup_n (by omega), w1, haK_o (by omega) f0 f1 hh (by omega)]; exact b9
  · rw [haK_o (by omega) f0 f1 hh (by omega)] at z
    rw [aup_n (by omega), w1, haK_o (by omega) f0 f1 hh (by omega)]; exact b10 z
  · rw [aup_n (by omega), w1]
  · have hxa : x ≠ ya := fun e => hx (by rw [e]; omega)
    rw [aup_rn hxa]
    exact hs2 x j (hYH.own (x := x) (by omega)).2
