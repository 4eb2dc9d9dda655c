set_option maxRecDepth 100000
/-! BeeYard, 6: a yard -/
theorem C_x_laysIn {own : Int → Int} {sz : Int} {im : Int → aIm} {ct : Int → Int → Int} {ya a la k : Int} {s N : Int → Int} {Q : aPost} (hY : aob sz im ya 5) (hA : aob sz im a 9) (hl : ct ya 0 = la) (HL : LR own sz im ct la s N) (e : ct a 5 = s (64 + 198 * k + 3)) (h0 : -1 ≤ s (64 + 198 * k + 3)) (h1 : s (64 + 198 * k + 3) < s 1) (hQ : Q (.inl (some (vI (laK s k)))) (sz, im, ct)) : AMet md_X5_laysIn 1 0 0 [vR ya, vR a] (sz, im, ct) Q := by
  refine AMet.go (L := [some (vR ya), some (vR a)]) mok_X5_laysIn (Nat.le_of_ble_eq_true rfl) rfl ?_
  obtain ⟨l1, ⟨l2, l3, l4, l5, l6⟩, l7, l8, ⟨l9, -⟩, l10, -⟩ := HL
  refine aw_aload_n dX5_laysIn_0 rfl ?_
  refine g_X5_71_9 rfl dX5_laysIn_1 hA ?_
  rw [e]
  refine aw_ifge (tgt := 11) dX5_laysIn_4 (by decide) (fun h4 => ?_) (fun h4 => ?_)
  · refine aw_aload_n dX5_laysIn_11 rfl ?_
    refine g_X5_12_5 rfl dX5_laysIn_12 hY ?_
    rw [hl]
    refine g_X5_74_6 rfl dX5_laysIn_15 l1 ?_
    refine aw_aload_n dX5_laysIn_18 rfl ?_
    refine g_X5_71_9 rfl dX5_laysIn_19 hA ?_
    rw [e]
    refine aw_iaload dX5_laysIn_22 l6 (by omega) (by omega) ?_
    refine aw_ireturn dX5_laysIn_23 rfl ?_
    first
      | (have z : laK s k = 0 := by unfold laK; rw [if_pos (by omega)]
         rw [z] at hQ; exact hQ)
      | (have z : laK s k = s (14 + 4 * s (64 + 198 * k + 3)) := by unfold laK; rw [if_neg (by omega)]
         rw [z, ← (l10 _ (by omega) h1).2.2.2.1] at hQ; exact hQ)
  · refine aw_iconst dX5_laysIn_7 (by decide) ?_
    refine aw_goto (tgt := 23) dX5_laysIn_8 (by decide) ?_
    refine aw_ireturn dX5_laysIn_23 rfl ?_
    first
      | (have z : laK s k = 0 := by unfold laK; rw [if_pos (by omega)]
         rw [z] at hQ; exact hQ)
      | (have z : laK s k = s (14 + 4 * s (64 + 198 * k + 3)) := by unfold laK; rw [if_neg (by omega)]
         rw [z, ← (l10 _ (by omega) h1).2.2.2.1] at hQ; exact hQ)
theorem C_x_canPass {own : Int → Int} {y sz : Int} {im : Int → aIm} {ct : Int → Int → Int} {ya dd : Int} {s N : Int → Int} {w : Int} {Q : aPost} (H : YR own y sz im ct ya s dd N)(h0 : 0 ≤ dd ∧ dd ≤ 9999) (h1 : 0 ≤ w ∧ w ≤ 10000) (hT : dd + w ≤ 9999 → Q (.inl (some (vI 1))) (sz, im, ct)) (hF : ¬ dd + w ≤ 9999 → Q (.inl (some (vI 0))) (sz, im, ct)) : AMet md_X5_canPass 1 0 0 [vR ya, vI w] (sz, im, ct) Q := by
  refine AMet.go (L := [some (vR ya), some (vI w)]) mok_X5_canPass (Nat.le_of_ble_eq_true rfl) rfl ?_
  have e := H.2.2.2.2.2.1.2.1
  refine aw_aload_n dX5_canPass_0 rfl ?_
  refine g_X5_47_5 rfl dX5_canPass_1 H.1 ?_
  rw [e]
  refine aw_iload_n dX5_canPass_4 rfl ?_
  refine aw_iaddr dX5_canPass_5 (by omega) ?_
  refine aw_sipush dX5_canPass_6 (by decide) ?_
  refine aw_icmpgt (tgt := 16) dX5_canPass_9 (by decide) (fun h9 => ?_) (fun h9 => ?_)
  · refine aw_iconst dX5_canPass_16 (by decide) ?_
    refine aw_zreturn dX5_canPass_17 rfl (Or.inl rfl) ?_
    exact hF (by omega)
  · refine aw_iconst dX5_canPass_12 (by decide) ?_
    refine aw_goto (tgt := 17) dX5_canPass_13 (by decide) ?_
    refine aw_zreturn dX5_canPass_17 rfl (Or.inr rfl) ?_
    exact hT (by omega)
theorem L_x_homeOf {own : Int → Int} {y sz : Int} {im : Int → aIm} {ct : Int → Int → Int} {ya dd : Int} {s N : Int → Int} {q : Int} {Q : aPost} {d kc ks : Nat} (H : YR own y sz im ct ya s dd N) (hT : ∀ k, 0 ≤ k → k < s 0 → s (64 + 198 * k + 3) = q → (∀ j, 0 ≤ j → j < k → s (64 + 198 * j + 3) ≠ q) → Q (.inl (some (vI k))) (sz, im, ct)) (hN : (∀ j, 0 ≤ j → j < s 0 → s (64 + 198 * j + 3) ≠ q) → Q (.inl (some (vI (-1)))) (sz, im, ct)) : ∀ (r : Nat) (k : Int), k + r = s 0 → 0 ≤ k → (∀ j, 0 ≤ j → j < k → s (64 + 198 * j + 3) ≠ q) →
    AW (mq Q) md_X5_homeOf d kc ks 2 [some (vR ya), some (vI q), some (vI k)] [] (sz, im, ct) := by
  obtain ⟨h1, h2, h3, h4, h5, h6, h7, h8⟩ := H
  intro r
  induction r with
  | zero =>
    intro k g1 g2 g3
    refine aw_iload_n dX5_homeOf_2 rfl ?_
    refine aw_aload_n dX5_homeOf_3 rfl ?_
    refine g_X5_28_5 rfl dX5_homeOf_4 h1 ?_
    rw [h6.1]
    refine aw_icmpge (tgt := 31) dX5_homeOf_7 (by decide) (fun h7 => ?_) (fun h7 => ?_)
    · refine aw_iconst dX5_homeOf_31 (by decide) ?_
      refine aw_ireturn dX5_homeOf_32 rfl ?_
      exact hN fun j j0 j1 => g3 j j0 (by omega)
    · exfalso; omega
  | succ r ih =>
    intro k g1 g2 g3
    obtain ⟨k1, k2, k3, k4⟩ := h8 k g2 (by omega)
    refine aw_iload_n dX5_homeOf_2 rfl ?_
    refine aw_aload_n dX5_homeOf_3 rfl ?_
    refine g_X5_28_5 rfl dX5_homeOf_4 h1 ?_
    rw [h6.1]
    refine aw_icmpge (tgt := 31) dX5_homeOf_7 (by decide) (fun h7 => ?_) (fun h7 => ?_)
    · exfalso; omega
    · refine aw_aload_n dX5_homeOf_10 rfl ?_
      refine g_X5_20_5 rfl dX5_homeOf_11 h1 ?_
      refine aw_iload_n dX5_homeOf_14 rfl ?_
      refine aw_aaload dX5_homeOf_15 h3 (by decide) (by omega) (by omega) ?_
      refine g_X5_71_9 rfl dX5_homeOf_16 k1.1 ?_
      rw [k3.2.2.1]
      refine aw_iload_n dX5_homeOf_19 rfl ?_
      refine aw_icmpne (tgt := 25) dX5_homeOf_20 (by decide) (fun h20 => ?_) (fun h20 => ?_)
      · refine aw_iinc2r dX5_homeOf_25 (by decide) (by decide) rfl (by omega) ?_
        refine aw_goto (tgt := 2) dX5_homeOf_28 (by decide) ?_
        refine ih _ (by omega) (by omega) (fun j j0 j1 => ?_)
        by_cases e : j = k
        · subst e; omega
        · exact g3 j j0 (by omega)
      · refine aw_iload_n dX5_homeOf_23 rfl ?_
        refine aw_ireturn dX5_homeOf_24 rfl ?_
        exact hT k g2 (by omega) (by omega) g3
theorem C_x_homeOf {own : Int → Int} {y sz : Int} {im : Int → aIm} {ct : Int → Int → Int} {ya dd : Int} {s N : Int → Int} {q : Int} {Q : aPost} (H : YR own y sz im ct ya s dd N)(hT : ∀ k, 0 ≤ k → k < s 0 → s (64 + 198 * k + 3) = q → (∀ j, 0 ≤ j → j < k → s (64 + 198 * j + 3) ≠ q) → Q (.inl (some (vI k))) (sz, im, ct)) (hN : (∀ j, 0 ≤ j → j < s 0 → s (64 + 198 * j + 3) ≠ q) → Q (.inl (some (vI (-1)))) (sz, im, ct)) : AMet md_X5_homeOf 1 0 0 [vR ya, vI q] (sz, im, ct) Q := by
  refine AMet.go (L := [some (vR ya), some (vI q), none]) mok_X5_homeOf (Nat.le_of_ble_eq_true rfl) rfl ?_
  have h5 := H.2.2.2.2.1
  refine aw_iconst dX5_homeOf_0 (by decide) ?_
  refine aw_istore2 dX5_homeOf_1 (by decide) rfl ?_
  exact L_x_homeOf H hT hN (s 0).toNat 0 (by omega) (by omega) (fun j j0 j1 => by omega)
theorem C_x_canSeat {own : Int → Int} {y sz : Int} {im : Int → aIm} {ct : Int → Int → Int} {ya dd : Int} {s N : Int → Int} {q k : Int} {Q : aPost} (H : YR own y sz im ct ya s dd N)(k0 : 0 ≤ k) (k1 : k < s 0) (hT : (∀ j, 0 ≤ j → j < s 0 → s (64 + 198 * j + 3) ≠ q) ∧ s 12 ≠ q ∧ s (64 + 198 * k + 3) < 0 → Q (.inl (some (vI 1))) (sz, im, ct)) (hF : ¬ ((∀ j, 0 ≤ j → j < s 0 → s (64 + 198 * j + 3) ≠ q) ∧ s 12 ≠ q ∧ s (64 + 198 * k + 3) < 0) → Q (.inl (some (vI 0))) (sz, im, ct)) : AMet md_X5_canSeat 2 0 0 [vR ya, vI q, vI k] (sz, im, ct) Q := by
  refine AMet.go (L := [some (vR ya), some (vI q), some (vI k)]) mok_X5_canSeat (Nat.le_of_ble_eq_true rfl) rfl ?_
  obtain ⟨h1, h2, h3, h4, h5, h6, h7, h8⟩ := id H
  obtain ⟨g1, g2, g3, g4⟩ := h8 k k0 k1
  refine aw_aload_n dX5_canSeat_0 rfl ?_
  refine aw_iload_n dX5_canSeat_1 rfl ?_
  refine c_X5_97 rfl dX5_canSeat_2 H.1 (Nat.le_of_ble_eq_true rfl) (by omega) (C_x_homeOf H (fun k9 a0 a1 a2 a3 => ?_) (fun hno => ?_))
  · refine aK_i ?_
    refine aw_ifge (tgt := 32) dX5_canSeat_5 (by decide) (fun h5 => ?_) (fun h5 => ?_)
    · refine aw_iconst dX5_canSeat_32 (by decide) ?_
      refine aw_zreturn dX5_canSeat_33 rfl (Or.inl rfl) ?_
      refine hF fun z => ?_
      first
        | exact z.1 k9 a0 a1 a2
        | exact absurd z.2.1 (by omega)
        | exact absurd z.2.2 (by omega)
    · refine aw_aload_n dX5_canSeat_8 rfl ?_
      refine g_X5_24_5 rfl dX5_canSeat_9 H.1 ?_
      refine aw_iload_n dX5_canSeat_12 rfl ?_
      rw [h7.1]
      refine aw_icmpeq (tgt := 32) dX5_canSeat_13 (by decide) (fun h13 => ?_) (fun h13 => ?_)
      · refine aw_iconst dX5_canSeat_32 (by decide) ?_
        refine aw_zreturn dX5_canSeat_33 rfl (Or.inl rfl) ?_
        refine hF fun z => ?_
        first
          | exact z.1 k9 a0 a1 a2
          | exact absurd z.2.1 (by omega)
          | exact absurd z.2.2 (by omega)
      · refine aw_aload_n dX5_canSeat_16 rfl ?_
        refine g_X5_20_5 rfl dX5_canSeat_17 H.1 ?_
        refine aw_iload_n dX5_canSeat_20 rfl ?_
        refine aw_aaload dX5_canSeat_21 h3 (by decide) (by omega) (by omega) ?_
        refine g_X5_71_9 rfl dX5_canSeat_22 g1.1 ?_
        rw [g3.2.2.1]
        refine aw_ifge (tgt := 32) dX5_canSeat_25 (by decide) (fun h25 => ?_) (fun h25 => ?_)
        · refine aw_iconst dX5_canSeat_32 (by decide) ?_
          refine aw_zreturn dX5_canSeat_33 rfl (Or.inl rfl) ?_
          refine hF fun z => ?_
          first
            | exact z.1 k9 a0 a1 a2
            | exact absurd z.2.1 (by omega)
            | exact absurd z.2.2 (by omega)
        · refine aw_iconst dX5_canSeat_28 (by decide) ?_
          refine aw_goto (tgt := 33) dX5_canSeat_29 (by decide) ?_
          refine aw_zreturn dX5_canSeat_33 rfl (Or.inr rfl) ?_
          first
            | (exfalso; omega)
            | exact hT ⟨hno, by omega, by omega⟩
  · refine aK_i ?_
    refine aw_ifge (tgt := 32) dX5_canSeat_5 (by decide) (fun h5 => ?_) (fun h5 => ?_)
    · refine aw_iconst dX5_canSeat_32 (by decide) ?_
      refine aw_zreturn dX5_canSeat_33 rfl (Or.inl rfl) ?_
      refine hF fun z => ?_
      first
        | exact z.1 k9 a0 a1 a2
        | exact absurd z.2.1 (by omega)
        | exact absurd z.2.2 (by omega)
    · refine aw_aload_n dX5_canSeat_8 rfl ?_
      refine g_X5_24_5 rfl dX5_canSeat_9 H.1 ?_
      refine aw_iload_n dX5_canSeat_12 rfl ?_
      rw [h7.1]
      refine aw_icmpeq (tgt := 32) dX5_canSeat_13 (by decide) (fun h13 => ?_) (fun h13 => ?_)
      · refine aw_iconst dX5_canSeat_32 (by decide) ?_
        refine aw_zreturn dX5_canSeat_33 rfl (Or.inl rfl) ?_
        refine hF fun z => ?_
        first
          | exact z.1 k9 a0 a1 a2
          | exact absurd z.2.1 (by omega)
          | exact absurd z.2.2 (by omega)
      · refine aw_aload_n dX5_canSeat_16 rfl ?_
        refine g_X5_20_5 rfl dX5_canSeat_17 H.1 ?_
        refine aw_iload_n dX5_canSeat_20 rfl ?_
        refine aw_aaload dX5_canSeat_21 h3 (by decide) (by omega) (by omega) ?_
        refine g_X5_71_9 rfl dX5_canSeat_22 g1.1 ?_
        rw [g3.2.2.1]
        refine aw_ifge (tgt := 32) dX5_canSeat_25 (by decide) (fun h25 => ?_) (fun h25 => ?_)
        · refine aw_iconst dX5_canSeat_32 (by decide) ?_
          refine aw_zreturn dX5_canSeat_33 rfl (Or.inl rfl) ?_
          refine hF fun z => ?_
          first
            | exact z.1 k9 a0 a1 a2
            | exact absurd z.2.1 (by omega)
            | exact absurd z.2.2 (by omega)
        · refine aw_iconst dX5_canSeat_28 (by decide) ?_
          refine aw_goto (tgt := 33) dX5_canSeat_29 (by decide) ?_
          refine aw_zreturn dX5_canSeat_33 rfl (Or.inr rfl) ?_
          first
            | (exfalso; omega)
            | exact hT ⟨hno, by omega, by omega⟩
theorem L_x_pas1 {own : Int → Int} {y sz : Int} {im : Int → aIm} {ct : Int → Int → Int} {ya dd la w : Int} {s N : Int → Int} {Q : aPost} {d kc ks : Nat} {i : Int} (hd : 6 ≤ d) (hy : 0 ≤ y) (hP : PD s)
    (K : ∀ (ct' : Int → Int → Int) (k : Int), YR own y sz im ct' ya (paF (s 0).toNat s) dd N → LR own sz im ct' la s N → ct' ya 0 = la → (∀ x j, ¬ (10 * y ≤ own x ∧ own x < 10 * y + 10) → ct' x j = ct x j) → AW (mq Q) md_X5_passes d kc ks 96 [some (vR ya), some (vI w), some (vI i), some (vI k)] [] (sz, im, ct')) :
    ∀ (r k : Nat) (ct1 : Int → Int → Int), (k : Int) + r = s 0 → YR own y sz im ct1 ya (paF k s) dd N → LR own sz im ct1 la s N → ct1 ya 0 = la → (∀ x j, ¬ (10 * y ≤ own x ∧ own x < 10 * y + 10) → ct1 x j = ct x j) →
    AW (mq Q) md_X5_passes d kc ks 9 [some (vR ya), some (vI w), some (vI i), some (vI k)] [] (sz, im, ct1) := by
  intro r
  induction r with
  | zero =>
    intro k ct1 g1 H HL hl hs
    have s0 : paF k s 0 = s 0 := (paF_lo hP (by omega)).1 0 (by omega) (by omega) (by omega) (by omega)
    refine aw_iload_n dX5_passes_9 rfl ?_
    refine aw_aload_n dX5_passes_10 rfl ?_
    refine g_X5_28_5 rfl dX5_passes_11 H.1 ?_
    rw [H.2.2.2.2.2.1.1, s0]
    refine aw_icmpge (tgt := 96) dX5_passes_14 (by decide) (fun h14 => ?_) (fun h14 => ?_)
    · have ek : (s 0).toNat = k := by omega
      rw [← ek] at H
      exact K ct1 _ H HL hl hs
    · exfalso; omega
  | succ r ih =>
    intro k ct1 g1 H HL hl hs
    have hPk := hP.2.1 k (by omega) (by omega)
    have lo := paF_lo hP (k := k) (by omega)
    have s0 : paF k s 0 = s 0 := lo.1 0 (by omega) (by omega) (by omega) (by omega)
    have r0 : paF k s (64 + 198 * k) = s (64 + 198 * k) := lo.2 _ (by omega)
    have r1 : paF k s (64 + 198 * k + 1) = s (64 + 198 * k + 1) := lo.2 _ (by omega)
    have r2 : paF k s (64 + 198 * k + 2) = s (64 + 198 * k + 2) := lo.2 _ (by omega)
    have r3 : paF k s (64 + 198 * k + 3) = s (64 + 198 * k + 3) := lo.2 _ (by omega)
    have rs : sh (64 + 198 * (k : Int)) (paF k s) = sh (64 + 198 * (k : Int)) s ∨ True := Or.inr trivial
    have HL' : LR own sz im ct1 la (paF k s) N := HL.row (lo.1 1 (by omega) (by omega) (by omega) (by omega)) (lo.1 2 (by omega) (by omega) (by omega) (by omega)) (fun i i0 i1 => lo.1 i (by omega) (by omega) (by omega) (by omega))
    have q1 : paF k s 1 = s 1 := lo.1 1 (by omega) (by omega) (by omega) (by omega)
    have hrg : rgF (paF k s (64 + 198 * k)) (sh (64 + 198 * (k : Int)) (paF k s)) := by
      rw [r0]
      intro i i0 i1
      unfold sh
      rw [lo.2 _ (by omega)]
      exact hPk.2.1 i i0 i1
    have hq8 := hP.2.2.1
    have hlay : -100 ≤ laK (paF k s) k ∧ laK (paF k s) k ≤ 100 := by
      unfold laK
      split
      · omega
      · have := hP.2.2.2 (paF k s (64 + 198 * k + 3)) (by omega) (by omega)
        rw [lo.1 _ (by omega) (by omega) (by omega) (by omega)]
        omega
    obtain ⟨h1, h2, h3, h4, h5, h6, h7, h8⟩ := id H
    have hYH := h8 k (by omega) (by omega)
    obtain ⟨k1, k2, k3, k4, k5, k6, k7, k8⟩ := id hYH
    have hY1 : ya ≠ ct1 ((im ya).2.2 1) k := fun e => by have := k5; rw [← e] at this; omega
    have hN1 : ¬ hvf im ct1 (ct1 ((im ya).2.2 1) k) (paF k s (64 + 198 * k)) ya := (hYH.own (x := ya) (by omega)).2
    have hY2 : (im ya).2.2 1 ≠ ct1 ((im ya).2.2 1) k := fun e => by have := k5; rw [← e] at this; omega
    have hN2 : ¬ hvf im ct1 (ct1 ((im ya).2.2 1) k) (paF k s (64 + 198 * k)) ((im ya).2.2 1) := (hYH.own (x := (im ya).2.2 1) (by omega)).2
    have yne := aob_ne h1 h3 (by decide)
    refine aw_iload_n dX5_passes_9 rfl ?_
    refine aw_aload_n dX5_passes_10 rfl ?_
    refine g_X5_28_5 rfl dX5_passes_11 h1 ?_
    rw [h6.1, s0]
    refine aw_icmpge (tgt := 96) dX5_passes_14 (by decide) (fun h14 => ?_) (fun h14 => ?_)
    · exfalso; omega
    · refine aw_aload_n dX5_passes_17 rfl ?_
      refine g_X5_20_5 rfl dX5_passes_18 h1 ?_
      refine aw_iload_n dX5_passes_21 rfl ?_
      refine aw_aaload dX5_passes_22 h3 (by decide) (by omega) (by omega) ?_
      refine aw_aload_n dX5_passes_23 rfl ?_
      refine aw_aload_n dX5_passes_24 rfl ?_
      refine g_X5_20_5 rfl dX5_passes_25 h1 ?_
      refine aw_iload_n dX5_passes_28 rfl ?_
      refine aw_aaload dX5_passes_29 h3 (by decide) (by omega) (by omega) ?_
      refine c_X5_78 rfl dX5_passes_30 h1 (Nat.le_of_ble_eq_true rfl) (by omega) (C_x_laysIn h1 k1.1 hl HL' k3.2.2.1 (by omega) (by omega) ?_)
      refine aK_i ?_
      refine c_X5_82 rfl dX5_passes_33 k1.1 (Nat.le_of_ble_eq_true rfl) (by omega) (C_x_day k1 k2 hrg hlay (by rw [k3.1]; omega) (by rw [k3.2.1]; omega) (fun ct2 hC2 z3 z4 z8 z9 z10 zj zx zf => ?_))
      rw [k3.1, k3.2.1] at hC2 z3 z9 z10
      rw [k3.1, k3.2.1] at z4
      have w1 : ∀ j, ct2 ya j = ct1 ya j := fun j => zx ya j hY1 hN1
      have w2 : ∀ j, ct2 ((im ya).2.2 1) j = ct1 ((im ya).2.2 1) j := fun j => zx _ j hY2 hN2
      refine aK_v ?_
      refine aw_aload_n dX5_passes_36 rfl ?_
      refine aw_dup dX5_passes_37 rfl ?_
      refine g_X5_53_5 rfl dX5_passes_38 h1 ?_
      rw [w1, h6.2.2.2.1]
      refine aw_aload_n dX5_passes_41 rfl ?_
      refine g_X5_20_5 rfl dX5_passes_42 h1 ?_
      refine aw_iload_n dX5_passes_45 rfl ?_
      refine aw_aaload dX5_passes_46 h3 (by decide) (by omega) (by omega) ?_
      rw [w2]
      refine g_X5_85_9 rfl dX5_passes_47 k1.1 ?_
      rw [z9]
      refine aw_iadd dX5_passes_50 ?_
      refine p_X5_53_5 rfl dX5_passes_51 h1 ?_
      refine aw_aload_n dX5_passes_54 rfl ?_
      refine aw_dup dX5_passes_55 rfl ?_
      refine g_X5_59_5 rfl dX5_passes_56 h1 ?_
      rw [aup_n (by omega), w1, h6.2.2.2.2.2.1]
      refine aw_aload_n dX5_passes_59 rfl ?_
      refine g_X5_20_5 rfl dX5_passes_60 h1 ?_
      refine aw_iload_n dX5_passes_63 rfl ?_
      refine aw_aaload dX5_passes_64 h3 (by decide) (by omega) (by omega) ?_
      rw [aup_rn yne.symm, w2]
      refine g_X5_88_9 rfl dX5_passes_65 k1.1 ?_
      rw [aup_rn hY1.symm, z10]
      refine aw_iadd dX5_passes_68 ?_
      refine p_X5_59_5 rfl dX5_passes_69 h1 ?_
      refine aw_aload_n dX5_passes_72 rfl ?_
      refine aw_dup dX5_passes_73 rfl ?_
      refine g_X5_62_5 rfl dX5_passes_74 h1 ?_
      rw [aup_n (by omega), aup_n (by omega), w1, h6.2.2.2.2.2.2.1]
      refine aw_aload_n dX5_passes_77 rfl ?_
      refine g_X5_20_5 rfl dX5_passes_78 h1 ?_
      refine aw_iload_n dX5_passes_81 rfl ?_
      refine aw_aaload dX5_passes_82 h3 (by decide) (by omega) (by omega) ?_
      rw [aup_rn yne.symm, aup_rn yne.symm, w2]
      refine g_X5_89_9 rfl dX5_passes_83 k1.1 ?_
      rw [aup_rn hY1.symm, aup_rn hY1.symm, z8]
      refine aw_iadd dX5_passes_86 ?_
      refine p_X5_62_5 rfl dX5_passes_87 h1 ?_
      refine aw_iinc3r dX5_passes_90 (by decide) (by decide) rfl (by omega) ?_
      refine aw_goto (tgt := 9) dX5_passes_93 (by decide) ?_
      have HY2 : YR own y sz im ct2 ya (dyK (paF k s) (64 + 198 * k) (laK (paF k s) k)) dd N := by
        refine H.hive (k := (k : Int)) (by omega) (by omega) (fun x j hx => ?_) (fun i hi => dyK_o (by omega) (by omega) (by omega) (by omega)) ?_
        · have := hYH.own hx
          exact zx x j this.1 this.2
        · refine hYH.set hC2 zf ?_ (fun i i0 i1 => (dyK_f i0).symm) ?_ ?_ ?_ ?_ ?_
          · exact dyK_o (by omega) (by omega) (by omega) (by omega)
          · rw [z3]; unfold dyK; rw [upA_n (by omega), upA_s]
          · rw [z4]; unfold dyK; rw [upA_s]
          · rw [zj 5 (by omega) (by omega) (by omega) (by omega) (by omega), k3.2.2.1, dyK_o (by omega) (by omega) (by omega) (by omega)]
          · rw [zj 6 (by omega) (by omega) (by omega) (by omega) (by omega), k3.2.2.2.1, dyK_o (by omega) (by omega) (by omega) (by omega)]
          · rw [zj 7 (by omega) (by omega) (by omega) (by omega) (by omega), k3.2.2.2.2, dyK_o (by omega) (by omega) (by omega) (by omega)]
      have yo : ∀ x, ¬ (10 * y ≤ own x ∧ own x < 10 * y + 10) → x ≠ ya ∧ ∀ j, ct2 x j = ct1 x j := fun x hx => by
        have := hYH.own (x := x) (by omega)
        exact ⟨fun e => by rw [e] at hx; omega, fun j => zx x j this.1 this.2⟩
      refine ih (k + 1) _ (by omega) ?_ (HL.frame fun x j hx => ?_) ?_ (fun x j hx => ?_)
      · have dy : ∀ i, i < 64 → dyK (paF k s) (64 + 198 * k) (laK (paF k s) k) i = paF k s i := fun i hi => dyK_o (by omega) (by omega) (by omega) (by omega)
        obtain ⟨-, -, -, -, -, ⟨b1, b2, b3, b4, b5, b6, b7, b8⟩, ⟨b9, b10⟩, -⟩ := id HY2
        rw [dy _ (by omega)] at b1 b3 b5 b8 b9
        rw [dy _ (by omega), dy _ (by omega)] at b10
        refine HY2.scal (fun x j hx => by rw [aup_rn hx, aup_rn hx, aup_rn hx]) (fun i hi => ?_) ?_ ⟨?_, ?_, ?_, ?_, ?_, ?_, ?_, ?_⟩ ⟨?_, fun z => ?_⟩
        · show paK (paF k s) k i = _
          unfold paK
          rw [upA_n (by omega), upA_n (by omega), upA_n (by omega)]
        · show paK (paF k s) k 0 = _
          unfold paK
          rw [upA_n (by omega), upA_n (by omega), upA_n (by omega)]
        all_goals (show _ = _)
        · rw [aup_n (by omega), aup_n (by omega), aup_n (by omega)]
          show _ = paK (paF k s) k 0
          rw [paK_o (by omega) (by omega) (by omega)]; exact b1
        · rw [aup_n (by omega), aup_n (by omega), aup_n (by omega)]; exact b2
        · rw [aup_n (by omega), aup_n (by omega), aup_n (by omega)]
          show _ = paK (paF k s) k 5
          rw [paK_o (by omega) (by omega) (by omega)]; exact b3
        · rw [aup_n (by omega), aup_n (by omega), aup_s]
          show _ = paK (paF k s) k 6
          unfold paK
          rw [upA_n (by omega), upA_n (by omega), upA_s]
        · rw [aup_n (by omega), aup_n (by omega), aup_n (by omega)]
          show _ = paK (paF k s) k 7
          rw [paK_o (by omega) (by omega) (by omega)]; exact b5
        · rw [aup_n (by omega), aup_s]
          show _ = paK (paF k s) k 8
          unfold paK
          rw [upA_s]
        · rw [aup_s]
          show _ = paK (paF k s) k 9
          unfold paK
          rw [upA_n (by omega), upA_s]
        · rw [aup_n (by omega), aup_n (by omega), aup_n (by omega)]
          show _ = paK (paF k s) k 4
          rw [paK_o (by omega) (by omega) (by omega)]; exact b8
        · rw [aup_n (by omega), aup_n (by omega), aup_n (by omega)]
          show _ = paK (paF k s) k 12
          rw [paK_o (by omega) (by omega) (by omega)]; exact b9
        · rw [aup_n (by omega), aup_n (by omega), aup_n (by omega)]
          show _ = paK (paF k s) k 11
          rw [paK_o (by omega) (by omega) (by omega)]
          have z' : paK (paF k s) k 12 ≠ -1 := z
          rw [paK_o (by omega) (by omega) (by omega)] at z'
          exact b10 z'
      · have := yo x (by omega)
        rw [aup_rn this.1, aup_rn this.1, aup_rn this.1]; exact this.2 j
      · rw [aup_n (by omega), aup_n (by omega), aup_n (by omega), w1]; exact hl
      · have := yo x hx
        rw [aup_rn this.1, aup_rn this.1, aup_rn this.1, this.2]; exact hs x j hx
