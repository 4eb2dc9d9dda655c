set_option maxRecDepth 100000
/-! BeeYard, 3: a hive is harvested, cleared, copied .. -/
theorem L_x_harv {sz : Int} {im : Int → aIm} {ct : Int → Int → Int} {a n f : Int} {Q : aPost} {d kc ks : Nat} {c : Int → Int} (hd : 3 ≤ d) (hS : HvS sz im a n) (hr : rgF n c) (h0 : 0 ≤ f) (h1 : f < n)
    (hQ : ∀ (ct' : Int → Int → Int), HvC sz im ct' a n (harC f 16 c) → (∀ x j, ¬ hvf im ct a n x → ct' x j = ct x j) → (∀ j, ct' ((im a).2.2 1) j = ct ((im a).2.2 1) j) → Q (.inl (some (vI (harN f 16 c)))) (sz, im, ct')) : ∀ (r j : Nat) (ct1 : Int → Int → Int), j + r = 16 → HvC sz im ct1 a n (harC f j c) → (∀ x j, ¬ hvf im ct a n x → ct1 x j = ct x j) → (∀ j, ct1 ((im a).2.2 1) j = ct ((im a).2.2 1) j) →
    AW (mq Q) md_X9_harvests d kc ks 4 [some (vR a), some (vI f), some (vI (harN f j c)), some (vI j)] [] (sz, im, ct1) := by
  intro r
  induction r with
  | zero =>
    intro j ct1 h2 hC hs hg
    have ej : j = 16 := by omega
    subst ej
    have hn1 := hS.2.2.2.1
    have hn2 := hS.2.2.2.2
    refine aw_iload_n dX9_harvests_4 rfl ?_
    refine aw_bipush dX9_harvests_5 (by decide) ?_
    refine aw_icmpge (tgt := 53) dX9_harvests_7 (by decide) (fun h7 => ?_) (fun h7 => ?_)
    · refine aw_iload_n dX9_harvests_53 rfl ?_
      refine aw_ireturn dX9_harvests_54 rfl ?_
      exact hQ ct1 hC hs hg
    · exfalso; omega
  | succ r ih =>
    intro j ct1 h2 hC hs hg
    have hn1 := hS.2.2.2.1
    have hn2 := hS.2.2.2.2
    have hv := hr (16 * f + j) (by omega) (by omega)
    have hA := hC.2.1 f h0 h1
    have e0 : ct1 (ct1 ((im a).2.2 1) f) j = c (16 * f + j) := by
      rw [hC.2.2.2 f j h0 h1 (by omega) (by omega)]
      unfold harC
      rw [if_neg (by omega)]
    have hb := isum_bd (g := fun i => sv 0 (c (16 * f + i))) (B := 100) (n := j) fun i i0 i1 => sv_bd (hr _ (by omega) (by omega)).1
    have es : harN f (j + 1) c = harN f j c + sv 0 (c (16 * f + j)) := rfl
    have hb2 : 0 ≤ harN f j c ∧ harN f j c ≤ 100 * j := hb
    have ih := ih (j + 1)
    rw [es] at ih
    refine aw_iload_n dX9_harvests_4 rfl ?_
    refine aw_bipush dX9_harvests_5 (by decide) ?_
    refine aw_icmpge (tgt := 53) dX9_harvests_7 (by decide) (fun h7 => ?_) (fun h7 => ?_)
    · exfalso; omega
    · refine aw_aload_n dX9_harvests_10 rfl ?_
      refine g_X9_21_9 rfl dX9_harvests_11 hS.1 ?_
      refine aw_iload_n dX9_harvests_14 rfl ?_
      refine aw_aaload dX9_harvests_15 hS.2.1 (by decide) (by omega) (by omega) ?_
      refine aw_iload_n dX9_harvests_16 rfl ?_
      refine aw_saload dX9_harvests_17 (by assumption) (by omega) (by omega) ?_
      rw [e0]
      refine c_X9_65 rfl dX9_harvests_18  (Nat.le_of_ble_eq_true rfl) (by omega) (C_x_isHoney (fun hh => ?_) (fun hh => ?_))
      · refine aK_i ?_
        refine aw_ifne (tgt := 27) dX9_harvests_21 (by decide) (fun _ => ?_) (fun h => absurd h (by decide))
        refine aw_iload_n dX9_harvests_27 rfl ?_
        refine aw_aload_n dX9_harvests_28 rfl ?_
        refine g_X9_21_9 rfl dX9_harvests_29 hS.1 ?_
        refine aw_iload_n dX9_harvests_32 rfl ?_
        refine aw_aaload dX9_harvests_33 hS.2.1 (by decide) (by omega) (by omega) ?_
        refine aw_iload_n dX9_harvests_34 rfl ?_
        refine aw_saload dX9_harvests_35 (by assumption) (by omega) (by omega) ?_
        rw [e0]
        refine aw_iaddr dX9_harvests_36 (by omega) ?_
        refine aw_istore2 dX9_harvests_37 (by decide) rfl ?_
        refine aw_aload_n dX9_harvests_38 rfl ?_
        refine g_X9_21_9 rfl dX9_harvests_39 hS.1 ?_
        refine aw_iload_n dX9_harvests_42 rfl ?_
        refine aw_aaload dX9_harvests_43 hS.2.1 (by decide) (by omega) (by omega) ?_
        refine aw_iload_n dX9_harvests_44 rfl ?_
        refine aw_iconst dX9_harvests_45 (by decide) ?_
        refine aw_sastore dX9_harvests_46 (by assumption) (by omega) (by omega) ?_
        refine aw_iinc3r dX9_harvests_47 (by decide) (by decide) rfl (by omega) ?_
        refine aw_goto (tgt := 4) dX9_harvests_50 (by decide) ?_
        first
          | (rw [show sv 0 (c (16 * f + j)) = 0 by unfold sv; rw [if_pos rfl]; split <;> omega, Int.add_zero] at ih
             exact ih ct1 (by omega) (by rw [Int.natCast_add, Int.natCast_one, ← harC_skip (by omega) (by omega)]; exact hC) hs hg)
          | (rw [show sv 0 (c (16 * f + j)) = c (16 * f + j) by unfold sv; rw [if_pos rfl, if_pos (by omega)]] at ih
             have hp := HvC.put (v := 0) hS hC h0 h1 (i := (j : Int)) (by omega) (by omega)
             rw [harC_put (by omega) (by omega)] at hp
             rw [w16_id (by omega) (by omega)]
             refine ih _ (by omega) hp.1 (fun x i hx => ?_) (fun i => ?_)
             · rw [aup_n (fun z => hx ⟨f, h0, h1, by rw [z.1, hg]⟩)]; exact hs x i hx
             · rw [hp.2]; exact hg i)
      · refine aK_i ?_
        refine aw_ifne (tgt := 27) dX9_harvests_21 (by decide) (fun h => absurd h (by decide)) (fun _ => ?_)
        refine aw_goto (tgt := 47) dX9_harvests_24 (by decide) ?_
        refine aw_iinc3r dX9_harvests_47 (by decide) (by decide) rfl (by omega) ?_
        refine aw_goto (tgt := 4) dX9_harvests_50 (by decide) ?_
        first
          | (rw [show sv 0 (c (16 * f + j)) = 0 by unfold sv; rw [if_pos rfl]; split <;> omega, Int.add_zero] at ih
             exact ih ct1 (by omega) (by rw [Int.natCast_add, Int.natCast_one, ← harC_skip (by omega) (by omega)]; exact hC) hs hg)
          | (rw [show sv 0 (c (16 * f + j)) = c (16 * f + j) by unfold sv; rw [if_pos rfl, if_pos (by omega)]] at ih
             have hp := HvC.put (v := 0) hS hC h0 h1 (i := (j : Int)) (by omega) (by omega)
             rw [harC_put (by omega) (by omega)] at hp
             rw [w16_id (by omega) (by omega)]
             refine ih _ (by omega) hp.1 (fun x i hx => ?_) (fun i => ?_)
             · rw [aup_n (fun z => hx ⟨f, h0, h1, by rw [z.1, hg]⟩)]; exact hs x i hx
             · rw [hp.2]; exact hg i)
theorem C_x_harvests {sz : Int} {im : Int → aIm} {ct : Int → Int → Int} {a n : Int} {c : Int → Int} {f : Int} {Q : aPost} (hS : HvS sz im a n) (hC : HvC sz im ct a n c) (hr : rgF n c) (h0 : 0 ≤ f) (h1 : f < n)
    (hQ : ∀ (ct' : Int → Int → Int), HvC sz im ct' a n (harC f 16 c) → (∀ x j, ¬ hvf im ct a n x → ct' x j = ct x j) → (∀ j, ct' ((im a).2.2 1) j = ct ((im a).2.2 1) j) → Q (.inl (some (vI (harN f 16 c)))) (sz, im, ct')) : AMet md_X9_harvests 3 0 0 [vR a, vI f] (sz, im, ct) Q := by
  refine AMet.go (L := [some (vR a), some (vI f), none, none]) mok_X9_harvests (Nat.le_of_ble_eq_true rfl) rfl ?_
  refine aw_iconst dX9_harvests_0 (by decide) ?_
  refine aw_istore2 dX9_harvests_1 (by decide) rfl ?_
  refine aw_iconst dX9_harvests_2 (by decide) ?_
  refine aw_istore3 dX9_harvests_3 (by decide) rfl ?_
  exact L_x_harv (ct := ct) (by omega) hS hr h0 h1 hQ 16 0 ct (by omega) (by rw [show ((0 : Nat) : Int) = 0 by rfl, harC_0]; exact hC) (fun _ _ _ => rfl) (fun _ => rfl)
theorem C_x_isCrowded {sz : Int} {im : Int → aIm} {ct : Int → Int → Int} {a n : Int} {c : Int → Int} {Q : aPost} (hS : HvS sz im a n) (hC : HvC sz im ct a n c) (hr : rgF n c) (hT : 0 ≤ ct a 5 ∧ 20 ≤ ct a 3 ∧ isum (fun i => sv 2 (c i)) (nF n) = 0 → Q (.inl (some (vI 1))) (sz, im, ct)) (hF : ¬ (0 ≤ ct a 5 ∧ 20 ≤ ct a 3 ∧ isum (fun i => sv 2 (c i)) (nF n) = 0) → Q (.inl (some (vI 0))) (sz, im, ct)) : AMet md_X9_isCrowded 4 0 0 [vR a] (sz, im, ct) Q := by
  refine AMet.go (L := [some (vR a)]) mok_X9_isCrowded (Nat.le_of_ble_eq_true rfl) rfl ?_
  refine aw_aload_n dX9_isCrowded_0 rfl ?_
  refine g_X9_9_9 rfl dX9_isCrowded_1 hS.1 ?_
  refine aw_iflt (tgt := 27) dX9_isCrowded_4 (by decide) (fun h4 => ?_) (fun h4 => ?_)
  · refine aw_iconst dX9_isCrowded_27 (by decide) ?_
    refine aw_zreturn dX9_isCrowded_28 rfl (Or.inl rfl) ?_
    exact hF (by omega)
  · refine aw_aload_n dX9_isCrowded_7 rfl ?_
    refine g_X9_34_9 rfl dX9_isCrowded_8 hS.1 ?_
    refine aw_bipush dX9_isCrowded_11 (by decide) ?_
    refine aw_icmplt (tgt := 27) dX9_isCrowded_13 (by decide) (fun h13 => ?_) (fun h13 => ?_)
    · refine aw_iconst dX9_isCrowded_27 (by decide) ?_
      refine aw_zreturn dX9_isCrowded_28 rfl (Or.inl rfl) ?_
      exact hF (by omega)
    · refine aw_aload_n dX9_isCrowded_16 rfl ?_
      refine c_X9_91 rfl dX9_isCrowded_17 hS.1 (Nat.le_of_ble_eq_true rfl) (by omega) (C_x_empty hS hC hr ?_)
      refine aK_i ?_
      refine aw_ifne (tgt := 27) dX9_isCrowded_20 (by decide) (fun h20 => ?_) (fun h20 => ?_)
      · refine aw_iconst dX9_isCrowded_27 (by decide) ?_
        refine aw_zreturn dX9_isCrowded_28 rfl (Or.inl rfl) ?_
        exact hF (by omega)
      · refine aw_iconst dX9_isCrowded_23 (by decide) ?_
        refine aw_goto (tgt := 28) dX9_isCrowded_24 (by decide) ?_
        refine aw_zreturn dX9_isCrowded_28 rfl (Or.inr rfl) ?_
        exact hT (by omega)
theorem L_x_clear1 {sz : Int} {im : Int → aIm} {ct : Int → Int → Int} {a n f : Int} {Q : aPost} {d kc ks : Nat} (hS : HvS sz im a n) (h0 : 0 ≤ f) (h1 : f < n)
    (K : ∀ (ct' : Int → Int → Int) (c' : Int → Int) (k : Int), HvC sz im ct' a n c' → (∀ i, 0 ≤ i → i < 16 * (f + 1) → c' i = 0) → (∀ x j, ¬ hvf im ct a n x → ct' x j = ct x j) → (∀ j, ct' ((im a).2.2 1) j = ct ((im a).2.2 1) j) → AW (mq Q) md_X9_clears d kc ks 34 [some (vR a), some (vI f), some (vI k)] [] (sz, im, ct')) : ∀ (r : Nat) (k : Int) (ct1 : Int → Int → Int) (c : Int → Int), k + r = 16 → 0 ≤ k → HvC sz im ct1 a n c → (∀ i, 0 ≤ i → i < 16 * f + k → c i = 0) → (∀ x j, ¬ hvf im ct a n x → ct1 x j = ct x j) → (∀ j, ct1 ((im a).2.2 1) j = ct ((im a).2.2 1) j) →
    AW (mq Q) md_X9_clears d kc ks 13 [some (vR a), some (vI f), some (vI k)] [] (sz, im, ct1) := by
  intro r
  induction r with
  | zero =>
    intro k ct1 c h2 h3 hC hz hs hg
    have hn1 := hS.2.2.2.1
    have hn2 := hS.2.2.2.2
    refine aw_iload_n dX9_clears_13 rfl ?_
    refine aw_bipush dX9_clears_14 (by decide) ?_
    refine aw_icmpge (tgt := 34) dX9_clears_16 (by decide) (fun h16 => ?_) (fun h16 => ?_)
    · exact K ct1 c _ hC (fun i i0 i1 => hz i i0 (by omega)) hs hg
    · exfalso; omega
  | succ r ih =>
    intro k ct1 c h2 h3 hC hz hs hg
    have hn1 := hS.2.2.2.1
    have hn2 := hS.2.2.2.2
    have hA := hC.2.1 f h0 h1
    have hp := HvC.put (v := 0) hS hC h0 h1 (i := k) (by omega) (by omega)
    refine aw_iload_n dX9_clears_13 rfl ?_
    refine aw_bipush dX9_clears_14 (by decide) ?_
    refine aw_icmpge (tgt := 34) dX9_clears_16 (by decide) (fun h16 => ?_) (fun h16 => ?_)
    · exfalso; omega
    · refine aw_aload_n dX9_clears_19 rfl ?_
      refine g_X9_21_9 rfl dX9_clears_20 hS.1 ?_
      refine aw_iload_n dX9_clears_23 rfl ?_
      refine aw_aaload dX9_clears_24 hS.2.1 (by decide) (by omega) (by omega) ?_
      refine aw_iload_n dX9_clears_25 rfl ?_
      refine aw_iconst dX9_clears_26 (by decide) ?_
      refine aw_sastore dX9_clears_27 (by assumption) (by omega) (by omega) ?_
      refine aw_iinc2r dX9_clears_28 (by decide) (by decide) rfl (by omega) ?_
      refine aw_goto (tgt := 13) dX9_clears_31 (by decide) ?_
      rw [w16_id (by omega) (by omega)]
      refine ih _ _ _ (by omega) (by omega) hp.1 (fun i i0 i1 => ?_) (fun x i hx => ?_) (fun i => ?_)
      · by_cases hi : i = 16 * f + k
        · subst hi; rw [upA_s]
        · rw [upA_n hi]; exact hz i i0 (by omega)
      · rw [aup_n (fun z => hx ⟨f, h0, h1, by rw [z.1, hg]⟩)]; exact hs x i hx
      · rw [hp.2]; exact hg i
theorem L_x_clear2 {sz : Int} {im : Int → aIm} {ct : Int → Int → Int} {a n : Int} {Q : aPost} {d kc ks : Nat} (hS : HvS sz im a n)
    (hQ : ∀ (ct' : Int → Int → Int), HvC sz im ct' a n (fun _ => 0) → (∀ x j, ¬ hvf im ct a n x → ct' x j = ct x j) → (∀ j, ct' ((im a).2.2 1) j = ct ((im a).2.2 1) j) → Q (.inl none) (sz, im, ct')) : ∀ (r : Nat) (f : Int) (ct1 : Int → Int → Int) (c : Int → Int) (x2 : Option aV), f + r = n → 0 ≤ f → HvC sz im ct1 a n c → (∀ i, 0 ≤ i → i < 16 * f → c i = 0) → (∀ x j, ¬ hvf im ct a n x → ct1 x j = ct x j) → (∀ j, ct1 ((im a).2.2 1) j = ct ((im a).2.2 1) j) →
    AW (mq Q) md_X9_clears d kc ks 2 [some (vR a), some (vI f), x2] [] (sz, im, ct1) := by
  intro r
  induction r with
  | zero =>
    intro f ct1 c x2 h2 h3 hC hz hs hg
    have hn1 := hS.2.2.2.1
    have hn2 := hS.2.2.2.2
    refine aw_iload_n dX9_clears_2 rfl ?_
    refine aw_aload_n dX9_clears_3 rfl ?_
    refine g_X9_21_9 rfl dX9_clears_4 hS.1 ?_
    refine aw_alen dX9_clears_7 hS.2.1 ?_
    refine aw_icmpge (tgt := 40) dX9_clears_8 (by decide) (fun h8 => ?_) (fun h8 => ?_)
    · refine aw_ret dX9_clears_40 rfl ?_
      exact hQ ct1 (hC.cong fun i i0 i1 => hz i i0 (by omega)) hs hg
    · exfalso; omega
  | succ r ih =>
    intro f ct1 c x2 h2 h3 hC hz hs hg
    have hn1 := hS.2.2.2.1
    have hn2 := hS.2.2.2.2
    refine aw_iload_n dX9_clears_2 rfl ?_
    refine aw_aload_n dX9_clears_3 rfl ?_
    refine g_X9_21_9 rfl dX9_clears_4 hS.1 ?_
    refine aw_alen dX9_clears_7 hS.2.1 ?_
    refine aw_icmpge (tgt := 40) dX9_clears_8 (by decide) (fun h8 => ?_) (fun h8 => ?_)
    · exfalso; omega
    · refine aw_iconst dX9_clears_11 (by decide) ?_
      refine aw_istore2 dX9_clears_12 (by decide) rfl ?_
      refine L_x_clear1 (ct := ct) hS h3 (by omega) (fun ct2 c2 k2 hC2 hz2 hs2 hg2 => ?_) 16 _ _ c (by omega) (by omega) hC (fun i i0 i1 => hz i i0 (by omega)) hs hg
      refine aw_iinc1r dX9_clears_34 (by decide) (by decide) rfl (by omega) ?_
      refine aw_goto (tgt := 2) dX9_clears_37 (by decide) ?_
      exact ih _ _ c2 _ (by omega) (by omega) hC2 hz2 hs2 hg2
theorem C_x_clears {sz : Int} {im : Int → aIm} {ct : Int → Int → Int} {a n : Int} {c : Int → Int} {Q : aPost} (hS : HvS sz im a n) (hC : HvC sz im ct a n c)
    (hQ : ∀ (ct' : Int → Int → Int), HvC sz im ct' a n (fun _ => 0) → (∀ x j, ¬ hvf im ct a n x → ct' x j = ct x j) → (∀ j, ct' ((im a).2.2 1) j = ct ((im a).2.2 1) j) → Q (.inl none) (sz, im, ct')) : AMet md_X9_clears 1 0 0 [vR a] (sz, im, ct) Q := by
  refine AMet.go (L := [some (vR a), none, none]) mok_X9_clears (Nat.le_of_ble_eq_true rfl) rfl ?_
  have hn1 := hS.2.2.2.1
  have hn2 := hS.2.2.2.2
  refine aw_iconst dX9_clears_0 (by decide) ?_
  refine aw_istore1 dX9_clears_1 (by decide) rfl ?_
  exact L_x_clear2 (ct := ct) hS hQ n.toNat 0 ct c none (by omega) (by omega) hC (fun i i0 i1 => by omega) (fun _ _ _ => rfl) (fun _ => rfl)
theorem C_x_swaps {sz : Int} {im : Int → aIm} {ct : Int → Int → Int} {a b na nb f g N1 N2 : Int} {Q : aPost} (hS : HvS sz im a na) (hS2 : HvS sz im b nb) (f0 : 0 ≤ f) (f1 : f < na) (g0 : 0 ≤ g) (g1 : g < nb) (hA : aar sz im (ct ((im a).2.2 1) f) 1 N1) (hB : aar sz im (ct ((im b).2.2 1) g) 1 N2)
    (hQ : Q (.inl none) (sz, im, aup (aup ct ((im a).2.2 1) f (ct ((im b).2.2 1) g)) ((im b).2.2 1) g (ct ((im a).2.2 1) f))) : AMet md_X9_swaps 1 0 0 [vR a, vI f, vR b, vI g] (sz, im, ct) Q := by
  refine AMet.go (L := [some (vR a), some (vI f), some (vR b), some (vI g), none]) mok_X9_swaps (Nat.le_of_ble_eq_true rfl) rfl ?_
  refine aw_aload_n dX9_swaps_0 rfl ?_
  refine g_X9_21_9 rfl dX9_swaps_1 hS.1 ?_
  refine aw_iload_n dX9_swaps_4 rfl ?_
  refine aw_aaload dX9_swaps_5 hS.2.1 (by decide) (by omega) (by omega) ?_
  refine aw_astore4 dX9_swaps_6 (by decide) rfl ?_
  refine aw_aload_n dX9_swaps_8 rfl ?_
  refine g_X9_21_9 rfl dX9_swaps_9 hS.1 ?_
  refine aw_iload_n dX9_swaps_12 rfl ?_
  refine aw_aload_n dX9_swaps_13 rfl ?_
  refine g_X9_21_9 rfl dX9_swaps_14 hS2.1 ?_
  refine aw_iload_n dX9_swaps_17 rfl ?_
  refine aw_aaload dX9_swaps_18 hS2.2.1 (by decide) (by omega) (by omega) ?_
  refine aw_aastore dX9_swaps_19 hS.2.1 (by decide) (by omega) (by omega) (Or.inr ⟨rfl, _, hB⟩) ?_
  refine aw_aload_n dX9_swaps_20 rfl ?_
  refine g_X9_21_9 rfl dX9_swaps_21 hS2.1 ?_
  refine aw_iload_n dX9_swaps_24 rfl ?_
  refine aw_aload dX9_swaps_25 rfl ?_
  refine aw_aastore dX9_swaps_27 hS2.2.1 (by decide) (by omega) (by omega) (Or.inr ⟨rfl, _, hA⟩) ?_
  refine aw_ret dX9_swaps_28 rfl ?_
  exact hQ
