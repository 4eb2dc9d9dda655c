set_option maxRecDepth 100000
/-! BeeYard, 2: a hive eats, has a day, is harvested .. -/
theorem L_x_eats {sz : Int} {im : Int → aIm} {ct : Int → Int → Int} {a n t : Int} {Q : aPost} {d kc ks : Nat} (hd : 3 ≤ d) (hS : HvS sz im a n) (ht : 0 ≤ t ∧ t < 2147483648) (R : (Int → Int) × Int)
    (hQ : ∀ (ct' : Int → Int → Int) (c' : Int → Int), HvC sz im ct' a n c' → eqF n c' R.1 → (∀ x j, ¬ hvf im ct a n x → ct' x j = ct x j) → (∀ j, ct' ((im a).2.2 1) j = ct ((im a).2.2 1) j) → Q (.inl (some (vI (t - R.2)))) (sz, im, ct')) : ∀ (r : Nat) (k l : Int) (ct1 : Int → Int → Int) (c : Int → Int) (x4 : Option aV), k + r = 16 * n → 0 ≤ k → 0 ≤ l → l ≤ t → HvC sz im ct1 a n c → rgF n c → eqF n (eatE n r c l).1 R.1 → (eatE n r c l).2 = R.2 → (∀ x j, ¬ hvf im ct a n x → ct1 x j = ct x j) → (∀ j, ct1 ((im a).2.2 1) j = ct ((im a).2.2 1) j) →
    AW (mq Q) md_X9_eats d kc ks 4 [some (vR a), some (vI t), some (vI l), some (vI k), x4] [] (sz, im, ct1) := by
  intro r
  induction r with
  | zero =>
    intro k l ct1 c x4 h1 h2 h3 h4 hC hr e1 e2 hs hg
    have hn1 := hS.2.2.2.1
    have hn2 := hS.2.2.2.2
    refine aw_iload_n dX9_eats_4 rfl ?_
    refine aw_aload_n dX9_eats_5 rfl ?_
    refine c_X9_57 rfl dX9_eats_6 hS.1 (Nat.le_of_ble_eq_true rfl) (by omega) (C_x_fields hS ?_)
    refine aK_i ?_
    refine aw_icmpge (tgt := 65) dX9_eats_9 (by decide) (fun h9 => ?_) (fun h9 => ?_)
    · refine aw_iload_n dX9_eats_65 rfl ?_
      refine aw_iload_n dX9_eats_66 rfl ?_
      refine aw_isubr dX9_eats_67 (by omega) ?_
      refine aw_ireturn dX9_eats_68 rfl ?_
      simp only [eatE] at e1 e2
      rw [e2]
      exact hQ ct1 c hC e1 hs hg
    · exfalso; omega
  | succ r ih =>
    intro k l ct1 c x4 h1 h2 h3 h4 hC hr e1 e2 hs hg
    have hn1 := hS.2.2.2.1
    have hn2 := hS.2.2.2.2
    have hk : k = 16 * n - (r + 1) := by omega
    subst hk
    have hf := fld_in (n := n) (k := 16 * n - (r + 1)) (by omega) (by omega)
    have hv := hr _ hf.1 hf.2
    refine aw_iload_n dX9_eats_4 rfl ?_
    refine aw_aload_n dX9_eats_5 rfl ?_
    refine c_X9_57 rfl dX9_eats_6 hS.1 (Nat.le_of_ble_eq_true rfl) (by omega) (C_x_fields hS ?_)
    refine aK_i ?_
    refine aw_icmpge (tgt := 65) dX9_eats_9 (by decide) (fun h9 => ?_) (fun h9 => ?_)
    · exfalso; omega
    · refine aw_iload_n dX9_eats_12 rfl ?_
      refine aw_ifle (tgt := 65) dX9_eats_13 (by decide) (fun h13 => ?_) (fun h13 => ?_)
      · refine aw_iload_n dX9_eats_65 rfl ?_
        refine aw_iload_n dX9_eats_66 rfl ?_
        refine aw_isubr dX9_eats_67 (by omega) ?_
        refine aw_ireturn dX9_eats_68 rfl ?_
        simp only [eatE, if_pos h13] at e1 e2
        rw [e2]
        exact hQ ct1 c hC e1 hs hg
      · refine aw_aload_n dX9_eats_16 rfl ?_
        refine aw_iload_n dX9_eats_17 rfl ?_
        refine c_X9_61 rfl dX9_eats_18 hS.1 (Nat.le_of_ble_eq_true rfl) (by omega) (C_x_at hS hC (by omega) (by omega) ?_)
        refine aK_i ?_
        refine c_X9_65 rfl dX9_eats_21  (Nat.le_of_ble_eq_true rfl) (by omega) (C_x_isHoney (fun hh => ?_) (fun hh => ?_))
        · refine aK_i ?_
          refine aw_ifne (tgt := 30) dX9_eats_24 (by decide) (fun _ => ?_) (fun h => absurd h (by decide))
          have q1 : ¬ l ≤ 0 := by omega
          simp only [eatE, if_neg q1, if_neg (show ¬ (c (fld n (16 * n - (r + 1))) = 0 ∨ 100 < c (fld n (16 * n - (r + 1)))) by omega)] at e1 e2
          refine aw_iload_n dX9_eats_30 rfl ?_
          refine aw_aload_n dX9_eats_31 rfl ?_
          refine aw_iload_n dX9_eats_32 rfl ?_
          refine c_X9_61 rfl dX9_eats_33 hS.1 (Nat.le_of_ble_eq_true rfl) (by omega) (C_x_at hS hC (by omega) (by omega) ?_)
          refine aK_i ?_
          refine aw_mmin dX9_eats_36 q815 q816 q137 q817 (Nat.le_of_ble_eq_true rfl) (by omega) ?_
          refine aw_istore4 dX9_eats_39 (by decide) rfl ?_
          refine aw_aload_n dX9_eats_41 rfl ?_
          refine aw_iload_n dX9_eats_42 rfl ?_
          refine aw_aload_n dX9_eats_43 rfl ?_
          refine aw_iload_n dX9_eats_44 rfl ?_
          refine c_X9_61 rfl dX9_eats_45 hS.1 (Nat.le_of_ble_eq_true rfl) (by omega) (C_x_at hS hC (by omega) (by omega) ?_)
          refine aK_i ?_
          refine aw_iload dX9_eats_48 rfl ?_
          refine aw_isubr dX9_eats_50 (by omega) ?_
          refine c_X9_75 rfl dX9_eats_51 hS.1 (Nat.le_of_ble_eq_true rfl) (by omega) (C_x_put hS hC (by omega) (by omega) (by omega) (fun ct2 hC2 hf2 hg2 => ?_))
          refine aK_v ?_
          refine aw_iload_n dX9_eats_54 rfl ?_
          refine aw_iload dX9_eats_55 rfl ?_
          refine aw_isubr dX9_eats_57 (by omega) ?_
          refine aw_istore2 dX9_eats_58 (by decide) rfl ?_
          refine aw_iinc3r dX9_eats_59 (by decide) (by decide) rfl (by omega) ?_
          refine aw_goto (tgt := 4) dX9_eats_62 (by decide) ?_
          first
            | exact ih _ _ _ _ _ (by omega) (by omega) (by omega) (by omega) hC hr e1 e2 hs hg
            | (refine ih _ _ _ _ _ (by omega) (by omega) (by omega) (by omega) hC2 (upA_rgF hr (by omega)) e1 e2 (fun x j hx => ?_) (fun j => ?_)
               · rw [hf2 x j (fun z => hx ((hvf_put hg x).mp z))]; exact hs x j hx
               · rw [hg2]; exact hg j)
        · refine aK_i ?_
          refine aw_ifne (tgt := 30) dX9_eats_24 (by decide) (fun h => absurd h (by decide)) (fun _ => ?_)
          have q1 : ¬ l ≤ 0 := by omega
          simp only [eatE, if_neg q1, if_pos (show c (fld n (16 * n - (r + 1))) = 0 ∨ 100 < c (fld n (16 * n - (r + 1))) by omega)] at e1 e2
          refine aw_goto (tgt := 59) dX9_eats_27 (by decide) ?_
          refine aw_iinc3r dX9_eats_59 (by decide) (by decide) rfl (by omega) ?_
          refine aw_goto (tgt := 4) dX9_eats_62 (by decide) ?_
          first
            | exact ih _ _ _ _ _ (by omega) (by omega) (by omega) (by omega) hC hr e1 e2 hs hg
            | (refine ih _ _ _ _ _ (by omega) (by omega) (by omega) (by omega) hC2 (upA_rgF hr (by omega)) e1 e2 (fun x j hx => ?_) (fun j => ?_)
               · rw [hf2 x j (fun z => hx ((hvf_put hg x).mp z))]; exact hs x j hx
               · rw [hg2]; exact hg j)
theorem C_x_eats {sz : Int} {im : Int → aIm} {ct : Int → Int → Int} {a n : Int} {c : Int → Int} {t : Int} {Q : aPost} (hS : HvS sz im a n) (hC : HvC sz im ct a n c) (hr : rgF n c) (ht : 0 ≤ t ∧ t < 2147483648)
    (hQ : ∀ (ct' : Int → Int → Int) (c' : Int → Int), HvC sz im ct' a n c' → eqF n c' (eatE n (nF n) c t).1 → (∀ x j, ¬ hvf im ct a n x → ct' x j = ct x j) → (∀ j, ct' ((im a).2.2 1) j = ct ((im a).2.2 1) j) → Q (.inl (some (vI (t - (eatE n (nF n) c t).2)))) (sz, im, ct')) : AMet md_X9_eats 3 0 0 [vR a, vI t] (sz, im, ct) Q := by
  refine AMet.go (L := [some (vR a), some (vI t), none, none, none]) mok_X9_eats (Nat.le_of_ble_eq_true rfl) rfl ?_
  have hn1 := hS.2.2.2.1
  have hn2 := hS.2.2.2.2
  refine aw_iload_n dX9_eats_0 rfl ?_
  refine aw_istore2 dX9_eats_1 (by decide) rfl ?_
  refine aw_iconst dX9_eats_2 (by decide) ?_
  refine aw_istore3 dX9_eats_3 (by decide) rfl ?_
  exact L_x_eats (ct := ct) (by omega) hS ht (eatE n (nF n) c t) hQ (nF n) _ _ _ c _ (by unfold nF; omega) (by omega) (by omega) (by omega) hC hr (fun _ _ _ => rfl) rfl (fun _ _ _ => rfl) (fun _ => rfl)
theorem L_x_age {sz : Int} {im : Int → aIm} {ct : Int → Int → Int} {a n y : Int} {Q : aPost} {d kc ks : Nat} {c : Int → Int} {x3 : Option aV} (hd : 3 ≤ d) (hS : HvS sz im a n) (hr : rgF n c)
    (K : ∀ (ct' : Int → Int → Int) (c' : Int → Int) (x2 : Int), HvC sz im ct' a n c' → eqF n c' (fun i => agef (c i)) → ct' a 8 = dCame n c → (∀ x j, ¬ hvf im ct a n x → ¬ (x = a ∧ j = 8) → ct' x j = ct x j) → (∀ j, ct' ((im a).2.2 1) j = ct ((im a).2.2 1) j) → AW (mq Q) md_X9_day d kc ks 75 [some (vR a), some (vI y), some (vI x2), x3] [] (sz, im, ct')) :
    ∀ (r j : Nat) (ct1 : Int → Int → Int) (c1 : Int → Int), (j : Int) + r = 16 * n → HvC sz im ct1 a n c1 → (∀ i : Int, 0 ≤ i → i < j → c1 (fld n i) = agef (c (fld n i))) → (∀ i : Int, j ≤ i → i < 16 * n → c1 (fld n i) = c (fld n i)) → ct1 a 8 = isum (fun k => if 121 ≤ c (fld n k) then (1 : Int) else 0) j → (∀ x j, ¬ hvf im ct a n x → ¬ (x = a ∧ j = 8) → ct1 x j = ct x j) → (∀ j, ct1 ((im a).2.2 1) j = ct ((im a).2.2 1) j) →
    AW (mq Q) md_X9_day d kc ks 7 [some (vR a), some (vI y), some (vI j), x3] [] (sz, im, ct1) := by
  intro r
  induction r with
  | zero =>
    intro j ct1 c1 h1 hC h2 h3 h4 hs hg
    have hn1 := hS.2.2.2.1
    have hn2 := hS.2.2.2.2
    refine aw_iload_n dX9_day_7 rfl ?_
    refine aw_aload_n dX9_day_8 rfl ?_
    refine c_X9_57 rfl dX9_day_9 hS.1 (Nat.le_of_ble_eq_true rfl) (by omega) (C_x_fields hS ?_)
    refine aK_i ?_
    refine aw_icmpge (tgt := 75) dX9_day_12 (by decide) (fun h12 => ?_) (fun h12 => ?_)
    · refine K ct1 c1 _ hC (all_fld fun i i0 i1 => h2 i i0 (by omega)) ?_ hs hg
      have ej : nF n = j := by unfold nF; omega
      rw [h4, ← dCame_fld hn1 hn2, ej]
    · exfalso; omega
  | succ r ih =>
    intro j ct1 c1 h1 hC h2 h3 h4 hs hg
    have hn1 := hS.2.2.2.1
    have hn2 := hS.2.2.2.2
    have hf := fld_in (n := n) (k := j) (by omega) (by omega)
    have hv := hr _ hf.1 hf.2
    have e0 := h3 j (by omega) (by omega)
    have hb := isum_bd (g := fun k => if 121 ≤ c (fld n k) then (1 : Int) else 0) (B := 1) (n := j) fun i i0 i1 => by split <;> omega
    have es : isum (fun k => if 121 ≤ c (fld n k) then (1 : Int) else 0) (j + 1) = isum (fun k => if 121 ≤ c (fld n k) then (1 : Int) else 0) j + if 121 ≤ c (fld n j) then 1 else 0 := rfl
    have hna := hvf_self hS hC
    refine aw_iload_n dX9_day_7 rfl ?_
    refine aw_aload_n dX9_day_8 rfl ?_
    refine c_X9_57 rfl dX9_day_9 hS.1 (Nat.le_of_ble_eq_true rfl) (by omega) (C_x_fields hS ?_)
    refine aK_i ?_
    refine aw_icmpge (tgt := 75) dX9_day_12 (by decide) (fun h12 => ?_) (fun h12 => ?_)
    · exfalso; omega
    · refine aw_aload_n dX9_day_15 rfl ?_
      refine aw_iload_n dX9_day_16 rfl ?_
      refine c_X9_61 rfl dX9_day_17 hS.1 (Nat.le_of_ble_eq_true rfl) (by omega) (C_x_at hS hC (by omega) (by omega) ?_)
      refine aK_i ?_
      refine aw_bipush dX9_day_20 (by decide) ?_
      refine aw_icmpge (tgt := 28) dX9_day_22 (by decide) (fun h22 => ?_) (fun h22 => ?_)
      · refine aw_aload_n dX9_day_28 rfl ?_
        refine aw_iload_n dX9_day_29 rfl ?_
        refine aw_aload_n dX9_day_30 rfl ?_
        refine aw_iload_n dX9_day_31 rfl ?_
        refine c_X9_61 rfl dX9_day_32 hS.1 (Nat.le_of_ble_eq_true rfl) (by omega) (C_x_at hS hC (by omega) (by omega) ?_)
        refine aK_i ?_
        refine aw_iconst dX9_day_35 (by decide) ?_
        refine aw_iaddr dX9_day_36 (by omega) ?_
        refine c_X9_75 rfl dX9_day_37 hS.1 (Nat.le_of_ble_eq_true rfl) (by omega) (C_x_put hS hC (by omega) (by omega) (by omega) (fun ct2 hC2 hf2 hg2 => ?_))
        refine aK_v ?_
        refine aw_aload_n dX9_day_40 rfl ?_
        refine aw_iload_n dX9_day_41 rfl ?_
        refine c_X9_61 rfl dX9_day_42 hS.1 (Nat.le_of_ble_eq_true rfl) (by omega) (C_x_at hS hC2 (by omega) (by omega) ?_)
        rw [upA_s]
        refine aK_i ?_
        refine aw_bipush dX9_day_45 (by decide) ?_
        refine aw_icmpge (tgt := 53) dX9_day_47 (by decide) (fun h47 => ?_) (fun h47 => ?_)
        · refine aw_aload_n dX9_day_53 rfl ?_
          refine aw_iload_n dX9_day_54 rfl ?_
          refine aw_iconst dX9_day_55 (by decide) ?_
          refine c_X9_75 rfl dX9_day_56 hS.1 (Nat.le_of_ble_eq_true rfl) (by omega) (C_x_put hS hC2 (by omega) (by omega) (by omega) (fun ct3 hC3 hf3 hg3 => ?_))
          have hna2 := hvf_self hS hC2
          have e8 : ct3 a 8 = isum (fun k => if 121 ≤ c (fld n k) then (1 : Int) else 0) j := by rw [hf3 _ _ hna2, hf2 _ _ hna, h4]
          refine aK_v ?_
          refine aw_aload_n dX9_day_59 rfl ?_
          refine aw_dup dX9_day_60 rfl ?_
          refine g_X9_79_9 rfl dX9_day_61 hS.1 ?_
          rw [e8]
          refine aw_iconst dX9_day_64 (by decide) ?_
          refine aw_iaddr dX9_day_65 (by omega) ?_
          refine p_X9_79_9 rfl dX9_day_66 hS.1 ?_
          refine aw_iinc2r dX9_day_69 (by decide) (by decide) rfl (by omega) ?_
          refine aw_goto (tgt := 7) dX9_day_72 (by decide) ?_
          first
            | (have f1 : agef (c (fld n j)) = c (fld n j) := by unfold agef; rw [if_pos (by omega)]
               refine ih (j + 1) _ c1 (by omega) hC (fun i i0 i1 => ?_) (fun i i0 i1 => h3 i (by omega) i1) ?_ hs hg
               · by_cases hi : i = j
                 · subst hi; rw [e0, f1]
                 · exact h2 i i0 (by omega)
               · rw [h4, es, if_neg (by omega)]; omega)
            | (have f1 : agef (c (fld n j)) = c (fld n j) + 1 := by unfold agef; rw [if_neg (by omega), if_pos (by omega)]
               have z := fun x => (hvf_put (n := n) hg x)
               refine ih (j + 1) _ _ (by omega) hC2 (fun i i0 i1 => ?_) (fun i i0 i1 => ?_) ?_ (fun x i hx hy => ?_) (fun i => ?_)
               · by_cases hi : i = j
                 · subst hi; rw [upA_s, f1, e0]
                 · rw [upA_n (fun q => hi (fld_inj i0 (by omega) (by omega) (by omega) q))]; exact h2 i i0 (by omega)
               · rw [upA_n (fun q => absurd (fld_inj (by omega) i1 (by omega) (by omega) q) (by omega))]; exact h3 i (by omega) i1
               · rw [hf2 _ _ hna, h4, es, if_neg (by omega)]; omega
               · rw [hf2 _ _ (fun q => hx ((z x).mp q))]; exact hs x i hx hy
               · rw [hg2]; exact hg i)
            | (have f1 : agef (c (fld n j)) = 0 := by unfold agef; rw [if_neg (by omega), if_neg (by omega)]
               have z := fun x => (hvf_put (n := n) hg x)
               have z2 := fun x => (hvf_put (n := n) hg2 x)
               have hC4 := hC3.self hS (i := 8) (v := isum (fun k => if 121 ≤ c (fld n k) then (1 : Int) else 0) j + 1)
               refine ih (j + 1) _ _ (by omega) hC4.1 (fun i i0 i1 => ?_) (fun i i0 i1 => ?_) ?_ (fun x i hx hy => ?_) (fun i => ?_)
               · by_cases hi : i = j
                 · subst hi; rw [upA_s, f1]
                 · rw [upA_n (fun q => hi (fld_inj i0 (by omega) (by omega) (by omega) q)), upA_n (fun q => hi (fld_inj i0 (by omega) (by omega) (by omega) q))]; exact h2 i i0 (by omega)
               · rw [upA_n (fun q => absurd (fld_inj (by omega) i1 (by omega) (by omega) q) (by omega)), upA_n (fun q => absurd (fld_inj (by omega) i1 (by omega) (by omega) q) (by omega))]; exact h3 i (by omega) i1
               · rw [aup_s, es, if_pos (by omega)]
               · rw [aup_n hy, hf3 _ _ (fun q => hx ((z x).mp ((z2 x).mp q))), hf2 _ _ (fun q => hx ((z x).mp q))]; exact hs x i hx hy
               · rw [hC4.2, hg3, hg2]; exact hg i)
        · refine aw_goto (tgt := 69) dX9_day_50 (by decide) ?_
          refine aw_iinc2r dX9_day_69 (by decide) (by decide) rfl (by omega) ?_
          refine aw_goto (tgt := 7) dX9_day_72 (by decide) ?_
          first
            | (have f1 : agef (c (fld n j)) = c (fld n j) := by unfold agef; rw [if_pos (by omega)]
               refine ih (j + 1) _ c1 (by omega) hC (fun i i0 i1 => ?_) (fun i i0 i1 => h3 i (by omega) i1) ?_ hs hg
               · by_cases hi : i = j
                 · subst hi; rw [e0, f1]
                 · exact h2 i i0 (by omega)
               · rw [h4, es, if_neg (by omega)]; omega)
            | (have f1 : agef (c (fld n j)) = c (fld n j) + 1 := by unfold agef; rw [if_neg (by omega), if_pos (by omega)]
               have z := fun x => (hvf_put (n := n) hg x)
               refine ih (j + 1) _ _ (by omega) hC2 (fun i i0 i1 => ?_) (fun i i0 i1 => ?_) ?_ (fun x i hx hy => ?_) (fun i => ?_)
               · by_cases hi : i = j
                 · subst hi; rw [upA_s, f1, e0]
                 · rw [upA_n (fun q => hi (fld_inj i0 (by omega) (by omega) (by omega) q))]; exact h2 i i0 (by omega)
               · rw [upA_n (fun q => absurd (fld_inj (by omega) i1 (by omega) (by omega) q) (by omega))]; exact h3 i (by omega) i1
               · rw [hf2 _ _ hna, h4, es, if_neg (by omega)]; omega
               · rw [hf2 _ _ (fun q => hx ((z x).mp q))]; exact hs x i hx hy
               · rw [hg2]; exact hg i)
            | (have f1 : agef (c (fld n j)) = 0 := by unfold agef; rw [if_neg (by omega), if_neg (by omega)]
               have z := fun x => (hvf_put (n := n) hg x)
               have z2 := fun x => (hvf_put (n := n) hg2 x)
               have hC4 := hC3.self hS (i := 8) (v := isum (fun k => if 121 ≤ c (fld n k) then (1 : Int) else 0) j + 1)
               refine ih (j + 1) _ _ (by omega) hC4.1 (fun i i0 i1 => ?_) (fun i i0 i1 => ?_) ?_ (fun x i hx hy => ?_) (fun i => ?_)
               · by_cases hi : i = j
                 · subst hi; rw [upA_s, f1]
                 · rw [upA_n (fun q => hi (fld_inj i0 (by omega) (by omega) (by omega) q)), upA_n (fun q => hi (fld_inj i0 (by omega) (by omega) (by omega) q))]; exact h2 i i0 (by omega)
               · rw [upA_n (fun q => absurd (fld_inj (by omega) i1 (by omega) (by omega) q) (by omega)), upA_n (fun q => absurd (fld_inj (by omega) i1 (by omega) (by omega) q) (by omega))]; exact h3 i (by omega) i1
               · rw [aup_s, es, if_pos (by omega)]
               · rw [aup_n hy, hf3 _ _ (fun q => hx ((z x).mp ((z2 x).mp q))), hf2 _ _ (fun q => hx ((z x).mp q))]; exact hs x i hx hy
               · rw [hC4.2, hg3, hg2]; exact hg i)
      · skip
        refine aw_goto (tgt := 69) dX9_day_25 (by decide) ?_
        refine aw_iinc2r dX9_day_69 (by decide) (by decide) rfl (by omega) ?_
        refine aw_goto (tgt := 7) dX9_day_72 (by decide) ?_
        first
          | (have f1 : agef (c (fld n j)) = c (fld n j) := by unfold agef; rw [if_pos (by omega)]
             refine ih (j + 1) _ c1 (by omega) hC (fun i i0 i1 => ?_) (fun i i0 i1 => h3 i (by omega) i1) ?_ hs hg
             · by_cases hi : i = j
               · subst hi; rw [e0, f1]
               · exact h2 i i0 (by omega)
             · rw [h4, es, if_neg (by omega)]; omega)
          | (have f1 : agef (c (fld n j)) = c (fld n j) + 1 := by unfold agef; rw [if_neg (by omega), if_pos (by omega)]
             have z := fun x => (hvf_put (n := n) hg x)
             refine ih (j + 1) _ _ (by omega) hC2 (fun i i0 i1 => ?_) (fun i i0 i1 => ?_) ?_ (fun x i hx hy => ?_) (fun i => ?_)
             · by_cases hi : i = j
               · subst hi; rw [upA_s, f1, e0]
               · rw [upA_n (fun q => hi (fld_inj i0 (by omega) (by omega) (by omega) q))]; exact h2 i i0 (by omega)
             · rw [upA_n (fun q => absurd (fld_inj (by omega) i1 (by omega) (by omega) q) (by omega))]; exact h3 i (by omega) i1
             · rw [hf2 _ _ hna, h4, es, if_neg (by omega)]; omega
             · rw [hf2 _ _ (fun q => hx ((z x).mp q))]; exact hs x i hx hy
             · rw [hg2]; exact hg i)
          | (have f1 : agef (c (fld n j)) = 0 := by unfold agef; rw [if_neg (by omega), if_neg (by omega)]
             have z := fun x => (hvf_put (n := n) hg x)
             have z2 := fun x => (hvf_put (n := n) hg2 x)
             have hC4 := hC3.self hS (i := 8) (v := isum (fun k => if 121 ≤ c (fld n k) then (1 : Int) else 0) j + 1)
             refine ih (j + 1) _ _ (by omega) hC4.1 (fun i i0 i1 => ?_) (fun i i0 i1 => ?_) ?_ (fun x i hx hy => ?_) (fun i => ?_)
             · by_cases hi : i = j
               · subst hi; rw [upA_s, f1]
               · rw [upA_n (fun q => hi (fld_inj i0 (by omega) (by omega) (by omega) q)), upA_n (fun q => hi (fld_inj i0 (by omega) (by omega) (by omega) q))]; exact h2 i i0 (by omega)
             · rw [upA_n (fun q => absurd (fld_inj (by omega) i1 (by omega) (by omega) q) (by omega)), upA_n (fun q => absurd (fld_inj (by omega) i1 (by omega) (by omega) q) (by omega))]; exact h3 i (by omega) i1
             · rw [aup_s, es, if_pos (by omega)]
             · rw [aup_n hy, hf3 _ _ (fun q => hx ((z x).mp ((z2 x).mp q))), hf2 _ _ (fun q => hx ((z x).mp q))]; exact hs x i hx hy
             · rw [hC4.2, hg3, hg2]; exact hg i)
theorem L_x_lay {sz : Int} {im : Int → aIm} {ct : Int → Int → Int} {a n y : Int} {Q : aPost} {d kc ks : Nat} (hd : 3 ≤ d) (hS : HvS sz im a n) (R : Int → Int)
    (K : ∀ (ct' : Int → Int → Int) (c' : Int → Int) (e k : Int), HvC sz im ct' a n c' → eqF n c' R → (∀ x j, ¬ hvf im ct a n x → ct' x j = ct x j) → (∀ j, ct' ((im a).2.2 1) j = ct ((im a).2.2 1) j) → AW (mq Q) md_X9_day d kc ks 131 [some (vR a), some (vI y), some (vI e), some (vI k)] [] (sz, im, ct')) :
    ∀ (r : Nat) (e k : Int) (ct1 : Int → Int → Int) (c1 : Int → Int), k + r = 16 * n → 0 ≤ k → -100 ≤ e → e ≤ 100 → HvC sz im ct1 a n c1 → eqF n (layE n r c1 e) R → (∀ x j, ¬ hvf im ct a n x → ct1 x j = ct x j) → (∀ j, ct1 ((im a).2.2 1) j = ct ((im a).2.2 1) j) →
    AW (mq Q) md_X9_day d kc ks 92 [some (vR a), some (vI y), some (vI e), some (vI k)] [] (sz, im, ct1) := by
  intro r
  induction r with
  | zero =>
    intro e k ct1 c1 h1 h2 h3 h4 hC e1 hs hg
    have hn1 := hS.2.2.2.1
    have hn2 := hS.2.2.2.2
    refine aw_iload_n dX9_day_92 rfl ?_
    refine aw_aload_n dX9_day_93 rfl ?_
    refine c_X9_57 rfl dX9_day_94 hS.1 (Nat.le_of_ble_eq_true rfl) (by omega) (C_x_fields hS ?_)
    refine aK_i ?_
    refine aw_icmpge (tgt := 131) dX9_day_97 (by decide) (fun h97 => ?_) (fun h97 => ?_)
    · exact K ct1 c1 _ _ hC e1 hs hg
    · exfalso; omega
  | succ r ih =>
    intro e k ct1 c1 h1 h2 h3 h4 hC e1 hs hg
    have hn1 := hS.2.2.2.1
    have hn2 := hS.2.2.2.2
    have hk : k = 16 * n - (r + 1) := by omega
    subst hk
    have hf := fld_in (n := n) (k := 16 * n - (r + 1)) (by omega) (by omega)
    refine aw_iload_n dX9_day_92 rfl ?_
    refine aw_aload_n dX9_day_93 rfl ?_
    refine c_X9_57 rfl dX9_day_94 hS.1 (Nat.le_of_ble_eq_true rfl) (by omega) (C_x_fields hS ?_)
    refine aK_i ?_
    refine aw_icmpge (tgt := 131) dX9_day_97 (by decide) (fun h97 => ?_) (fun h97 => ?_)
    · exfalso; omega
    · refine aw_iload_n dX9_day_100 rfl ?_
      refine aw_ifle (tgt := 131) dX9_day_101 (by decide) (fun h101 => ?_) (fun h101 => ?_)
      · simp only [layE, if_pos h101] at e1
        exact K ct1 c1 _ _ hC e1 hs hg
      · refine aw_aload_n dX9_day_104 rfl ?_
        refine aw_iload_n dX9_day_105 rfl ?_
        refine c_X9_61 rfl dX9_day_106 hS.1 (Nat.le_of_ble_eq_true rfl) (by omega) (C_x_at hS hC (by omega) (by omega) ?_)
        refine aK_i ?_
        refine aw_ifeq (tgt := 115) dX9_day_109 (by decide) (fun h109 => ?_) (fun h109 => ?_)
        · have n1 : ¬ e ≤ 0 := by omega
          simp only [layE, if_neg n1, if_neg (show ¬ c1 (fld n (16 * n - (r + 1))) ≠ 0 by omega)] at e1
          refine aw_aload_n dX9_day_115 rfl ?_
          refine aw_iload_n dX9_day_116 rfl ?_
          refine aw_bipush dX9_day_117 (by decide) ?_
          refine c_X9_75 rfl dX9_day_119 hS.1 (Nat.le_of_ble_eq_true rfl) (by omega) (C_x_put hS hC (by omega) (by omega) (by omega) (fun ct2 hC2 hf2 hg2 => ?_))
          refine aK_v ?_
          refine aw_iinc2r dX9_day_122 (by decide) (by decide) rfl (by omega) ?_
          refine aw_iinc3r dX9_day_125 (by decide) (by decide) rfl (by omega) ?_
          refine aw_goto (tgt := 92) dX9_day_128 (by decide) ?_
          first
            | exact ih _ _ _ _ (by omega) (by omega) (by omega) (by omega) hC e1 hs hg
            | (refine ih _ _ _ _ (by omega) (by omega) (by omega) (by omega) hC2 e1 (fun x j hx => ?_) (fun j => ?_)
               · rw [hf2 x j (fun z => hx ((hvf_put hg x).mp z))]; exact hs x j hx
               · rw [hg2]; exact hg j)
        · have n1 : ¬ e ≤ 0 := by omega
          simp only [layE, if_neg n1, if_pos (show c1 (fld n (16 * n - (r + 1))) ≠ 0 by omega)] at e1
          refine aw_goto (tgt := 125) dX9_day_112 (by decide) ?_
          refine aw_iinc3r dX9_day_125 (by decide) (by decide) rfl (by omega) ?_
          refine aw_goto (tgt := 92) dX9_day_128 (by decide) ?_
          first
            | exact ih _ _ _ _ (by omega) (by omega) (by omega) (by omega) hC e1 hs hg
            | (refine ih _ _ _ _ (by omega) (by omega) (by omega) (by omega) hC2 e1 (fun x j hx => ?_) (fun j => ?_)
               · rw [hf2 x j (fun z => hx ((hvf_put hg x).mp z))]; exact hs x j hx
               · rw [hg2]; exact hg j)
theorem C_x_day {sz : Int} {im : Int → aIm} {ct : Int → Int → Int} {a n : Int} {c : Int → Int} {y : Int} {Q : aPost} (hS : HvS sz im a n) (hC : HvC sz im ct a n c) (hr : rgF n c) (hy : -100 ≤ y ∧ y ≤ 100) (hb : 0 ≤ ct a 3 ∧ ct a 3 ≤ 100000000) (hu : 0 ≤ ct a 4 ∧ ct a 4 ≤ 100000000)
    (hQ : ∀ (ct' : Int → Int → Int), HvC sz im ct' a n (dC n c (ct a 3) (ct a 4) y) → ct' a 3 = dB n c (ct a 3) (ct a 4) y → ct' a 4 = dH n c (ct a 3) (ct a 4) → ct' a 8 = dCame n c → ct' a 9 = dAte n c (ct a 3) (ct a 4) y → ct' a 10 = dStar n c (ct a 3) (ct a 4) y → (∀ j, j ≠ 3 → j ≠ 4 → j ≠ 8 → j ≠ 9 → j ≠ 10 → ct' a j = ct a j) →
      (∀ x j, x ≠ a → ¬ hvf im ct a n x → ct' x j = ct x j) → (∀ j, ct' ((im a).2.2 1) j = ct ((im a).2.2 1) j) → Q (.inl none) (sz, im, ct')) : AMet md_X9_day 4 0 0 [vR a, vI y] (sz, im, ct) Q := by
  refine AMet.go (L := [some (vR a), some (vI y), none, none]) mok_X9_day (Nat.le_of_ble_eq_true rfl) rfl ?_
  have hn1 := hS.2.2.2.1
  have hn2 := hS.2.2.2.2
  have hcm := dCame_bd (n := n) (c := c) (by omega)
  have hna := hvf_self hS hC
  have hne := dEat_bd (n := n) (c := c) (b := ct a 3) (u := ct a 4) (y := y) (by omega) hr hb.1 hu.1
  have hw : dWant n c (ct a 3) (ct a 4) = (ct a 4 + (ct a 3 + dCame n c)) / 10 := rfl
  refine aw_aload_n dX9_day_0 rfl ?_
  refine aw_iconst dX9_day_1 (by decide) ?_
  refine p_X9_79_9 rfl dX9_day_2 hS.1 ?_
  refine aw_iconst dX9_day_5 (by decide) ?_
  refine aw_istore2 dX9_day_6 (by decide) rfl ?_
  have hC0 := hC.self hS (i := 8) (v := 0)
  refine L_x_age (ct := ct) (by omega) hS hr (fun ct1 c1 x2 hC1 e1 e8 hs1 hg1 => ?_) (nF n) 0 _ c (by unfold nF; omega) hC0.1 (fun i i0 i1 => by omega) (fun i i0 i1 => rfl) (by rw [aup_s]; rfl) (fun x j hx hy => aup_n hy) hC0.2
  have b1 : ct1 a 3 = ct a 3 := hs1 a 3 hna (by omega)
  have u1 : ct1 a 4 = ct a 4 := hs1 a 4 hna (by omega)
  have hC2 := hC1.self hS (i := 3) (v := ct a 3 + dCame n c)
  refine aw_aload_n dX9_day_75 rfl ?_
  refine aw_dup dX9_day_76 rfl ?_
  refine g_X9_34_9 rfl dX9_day_77 hS.1 ?_
  refine aw_aload_n dX9_day_80 rfl ?_
  refine g_X9_79_9 rfl dX9_day_81 hS.1 ?_
  rw [b1, e8]
  refine aw_iaddr dX9_day_84 (by omega) ?_
  refine p_X9_34_9 rfl dX9_day_85 hS.1 ?_
  refine aw_iload_n dX9_day_88 rfl ?_
  refine aw_istore2 dX9_day_89 (by decide) rfl ?_
  refine aw_iconst dX9_day_90 (by decide) ?_
  refine aw_istore3 dX9_day_91 (by decide) rfl ?_
  have z1 := fun x => (hvf_put (ct := ct) (n := n) hg1 x)
  refine L_x_lay (ct := aup ct1 a 3 (ct a 3 + dCame n c)) (by omega) hS (dLaid n c y) (fun ct3 c3 e k hC3 e3 hs3 hg3 => ?_) (nF n) y 0 _ c1 (by unfold nF; omega) (by omega) (by omega) (by omega) hC2.1 (layE_cong (e1.trans ageC_eq.symm) (by omega)) (fun _ _ _ => rfl) (fun _ => rfl)
  have hna3 : ¬ hvf im (aup ct1 a 3 (ct a 3 + dCame n c)) a n a := hvf_self hS hC2.1
  have b3 : ct3 a 3 = ct a 3 + dCame n c := by rw [hs3 a 3 hna3, aup_s]
  have u3 : ct3 a 4 = ct a 4 := by rw [hs3 a 4 hna3, aup_n (by omega), u1]
  have r3 : rgF n c3 := e3.symm.rg (dLaid_rg (by omega) hr)
  have hC4 := hC3.self hS (i := 4) (v := ct a 4 + (ct a 3 + dCame n c))
  have hC5 := hC4.1.self hS (i := 4) (v := (ct a 4 + (ct a 3 + dCame n c)) % 10)
  refine aw_aload_n dX9_day_131 rfl ?_
  refine aw_dup dX9_day_132 rfl ?_
  refine g_X9_37_9 rfl dX9_day_133 hS.1 ?_
  refine aw_aload_n dX9_day_136 rfl ?_
  refine g_X9_34_9 rfl dX9_day_137 hS.1 ?_
  rw [b3, u3]
  refine aw_iaddr dX9_day_140 (by omega) ?_
  refine p_X9_37_9 rfl dX9_day_141 hS.1 ?_
  refine aw_aload_n dX9_day_144 rfl ?_
  refine g_X9_37_9 rfl dX9_day_145 hS.1 ?_
  rw [aup_s]
  refine aw_bipush dX9_day_148 (by decide) ?_
  refine aw_idivr dX9_day_150 (by omega) (by omega) ?_
  refine aw_istore3 dX9_day_151 (by decide) rfl ?_
  refine aw_aload_n dX9_day_152 rfl ?_
  refine aw_dup dX9_day_153 rfl ?_
  refine g_X9_37_9 rfl dX9_day_154 hS.1 ?_
  rw [aup_s]
  refine aw_bipush dX9_day_157 (by decide) ?_
  refine aw_iremr dX9_day_159 (by omega) (by omega) ?_
  refine p_X9_37_9 rfl dX9_day_160 hS.1 ?_
  refine aw_aload_n dX9_day_163 rfl ?_
  refine aw_aload_n dX9_day_164 rfl ?_
  refine aw_iload_n dX9_day_165 rfl ?_
  refine c_X9_82 rfl dX9_day_166 hS.1 (Nat.le_of_ble_eq_true rfl) (by omega) (C_x_eats hS hC5.1 r3 (by omega) (fun ct6 c6 hC6 e6 hs6 hg6 => ?_))
  have e6' := eatE_ext (n := n) (k := nF n) (c := c3) (c' := dLaid n c y) (l := dWant n c (ct a 3) (ct a 4)) (by unfold nF; omega) e3
  rw [← hw] at e6 ⊢
  rw [e6'.2]
  have E9 : dWant n c (ct a 3) (ct a 4) - (eatE n (nF n) (dLaid n c y) (dWant n c (ct a 3) (ct a 4))).2 = dAte n c (ct a 3) (ct a 4) y := rfl
  rw [E9]
  have hna6 : ¬ hvf im _ a n a := hvf_self hS hC5.1
  have b6 : ct6 a 3 = ct a 3 + dCame n c := by rw [hs6 a 3 hna6, aup_n (by omega), aup_n (by omega), b3]
  have E8 : dAte n c (ct a 3) (ct a 4) y = dWant n c (ct a 3) (ct a 4) - (dEat n c (ct a 3) (ct a 4) y).2 := rfl
  refine aK_i ?_
  refine p_X9_85_9 rfl dX9_day_169 hS.1 ?_
  refine aw_aload_n dX9_day_172 rfl ?_
  refine aw_aload_n dX9_day_173 rfl ?_
  refine g_X9_34_9 rfl dX9_day_174 hS.1 ?_
  rw [aup_n (by omega), b6]
  refine aw_bipush dX9_day_177 (by decide) ?_
  refine aw_iload_n dX9_day_179 rfl ?_
  refine aw_aload_n dX9_day_180 rfl ?_
  refine g_X9_85_9 rfl dX9_day_181 hS.1 ?_
  rw [aup_s]
  refine aw_isubr dX9_day_184 (by omega) ?_
  refine aw_imulr dX9_day_185 (by omega) ?_
  refine aw_mmin dX9_day_186 q815 q816 q137 q817 (Nat.le_of_ble_eq_true rfl) (by omega) ?_
  have E7 : min (ct a 3 + dCame n c) (10 * (dWant n c (ct a 3) (ct a 4) - dAte n c (ct a 3) (ct a 4) y)) = dStar n c (ct a 3) (ct a 4) y := by
    unfold dStar
    omega
  rw [E7]
  have hst : 0 ≤ dStar n c (ct a 3) (ct a 4) y ∧ dStar n c (ct a 3) (ct a 4) y ≤ ct a 3 + dCame n c := by unfold dStar; omega
  refine p_X9_88_9 rfl dX9_day_189 hS.1 ?_
  refine aw_aload_n dX9_day_192 rfl ?_
  refine aw_dup dX9_day_193 rfl ?_
  refine g_X9_34_9 rfl dX9_day_194 hS.1 ?_
  rw [aup_n (by omega), aup_n (by omega), b6]
  refine aw_aload_n dX9_day_197 rfl ?_
  refine g_X9_88_9 rfl dX9_day_198 hS.1 ?_
  rw [aup_s]
  refine aw_isubr dX9_day_201 (by omega) ?_
  refine p_X9_34_9 rfl dX9_day_202 hS.1 ?_
  refine aw_ret dX9_day_205 rfl ?_
  have E6 : ct a 3 + dCame n c - dStar n c (ct a 3) (ct a 4) y = dB n c (ct a 3) (ct a 4) y := rfl
  rw [E6]
  have hC7 := hC6.self hS (i := 9) (v := dAte n c (ct a 3) (ct a 4) y)
  have hC8 := hC7.1.self hS (i := 10) (v := dStar n c (ct a 3) (ct a 4) y)
  have hC9 := hC8.1.self hS (i := 3) (v := dB n c (ct a 3) (ct a 4) y)
  have y1 := fun x => (hvf_put (n := n) hC2.2 x)
  have y3 := fun x => (hvf_put (n := n) hg3 x)
  have y4 := fun x => (hvf_put (n := n) hC4.2 x)
  have y5 := fun x => (hvf_put (n := n) hC5.2 x)
  refine hQ _ (hC9.1.cong (e6.trans e6'.1)) (by rw [aup_s]) ?_ ?_ ?_ ?_ (fun j j3 j4 j8 j9 j10 => ?_) (fun x j hxa hx => ?_) (fun j => ?_)
  · rw [aup_n (by omega), aup_n (by omega), aup_n (by omega), hs6 a 4 hna6, aup_s]; rfl
  · rw [aup_n (by omega), aup_n (by omega), aup_n (by omega), hs6 a 8 hna6, aup_n (by omega), aup_n (by omega), hs3 a 8 hna3, aup_n (by omega), e8]
  · rw [aup_n (by omega), aup_n (by omega), aup_s]
  · rw [aup_n (by omega), aup_s]
  · rw [aup_n (by omega), aup_n (by omega), aup_n (by omega), hs6 a j hna6, aup_n (by omega), aup_n (by omega), hs3 a j hna3, aup_n (by omega), hs1 a j hna (by omega)]
  · have hx1 := fun z => hx ((z1 x).mp z)
    have hx2 := fun z => hx1 ((y1 x).mp z)
    have hx3 := fun z => hx2 ((y3 x).mp z)
    have hx4 := fun z => hx3 ((y4 x).mp z)
    rw [aup_n (fun z => hxa z.1), aup_n (fun z => hxa z.1), aup_n (fun z => hxa z.1), hs6 x j (fun z => hx4 ((y5 x).mp z)), aup_n (fun z => hxa z.1), aup_n (fun z => hxa z.1), hs3 x j hx2, aup_n (fun z => hxa z.1), hs1 x j hx (fun z => hxa z.1)]
  · rw [hC9.2, hC8.2, hC7.2, hg6, hC5.2, hC4.2, hg3, hC2.2, hg1]
