set_option maxRecDepth 100000
/-! steps of a season: how they are born; a block takes one in -/
theorem C_x_stepinit {sz : Int} {im : Int → aIm} {ct : Int → Int → Int} {a : Int} {Q : aPost} (ha : 0 ≤ a) (ha1 : a < sz) (hQ : Q (.inl none) (sz, im, ct)) : AMet md_X10_init 1 0 0 [vR a] (sz, im, ct) Q := by
  refine AMet.go (L := [some (vR a)]) mok_X10_init (Nat.le_of_ble_eq_true rfl) rfl ?_
  refine aw_aload_n dX10_init_0 rfl ?_
  refine aw_objInit dX10_init_1 q896 q151 q152 (by omega) (by omega) (Nat.le_of_ble_eq_true rfl) ?_
  refine aw_ret dX10_init_4 rfl ?_
  exact hQ
theorem C_x_actinit {sz : Int} {im : Int → aIm} {ct : Int → Int → Int} {a : Int} {w x y z u : Int} {Q : aPost} (ho : aob sz im a 12) (hQ : ∀ im1 : Int → aIm, aob sz im1 a 12 → ((im1 a).2.2 0 = w ∧ (im1 a).2.2 1 = x ∧ (im1 a).2.2 2 = y ∧ (im1 a).2.2 3 = z ∧ (im1 a).2.2 4 = u) → (∀ b, b ≠ a → im1 b = im b) → Q (.inl none) (sz, im1, ct)) : AMet md_X14_init 2 0 0 [vR a, vI w, vI x, vI y, vI z, vI u] (sz, im, ct) Q := by
  refine AMet.go (L := [some (vR a), some (vI w), some (vI x), some (vI y), some (vI z), some (vI u)]) mok_X14_init (Nat.le_of_ble_eq_true rfl) rfl ?_
  have ha := ho.1
  have ha1 := ho.2.1
  refine aw_aload_n dX14_init_0 rfl ?_
  refine c_X14_3 rfl dX14_init_1 (by omega) (Nat.le_of_ble_eq_true rfl) (by omega) (C_x_stepinit (by omega) (by omega) ?_)
  refine aK_v ?_
  refine aw_aload_n dX14_init_4 rfl ?_
  refine aw_iload_n dX14_init_5 rfl ?_
  refine pF_X14_9_12 rfl rfl dX14_init_6 ho ?_
  refine aw_aload_n dX14_init_9 rfl ?_
  refine aw_iload_n dX14_init_10 rfl ?_
  refine pF_X14_15_12 rfl rfl dX14_init_11 (aob_imf ho) ?_
  refine aw_aload_n dX14_init_14 rfl ?_
  refine aw_iload_n dX14_init_15 rfl ?_
  refine pF_X14_18_12 rfl rfl dX14_init_16 (aob_imf (aob_imf ho)) ?_
  refine aw_aload_n dX14_init_19 rfl ?_
  refine aw_iload dX14_init_20 rfl ?_
  refine pF_X14_21_12 rfl rfl dX14_init_22 (aob_imf (aob_imf (aob_imf ho))) ?_
  refine aw_aload_n dX14_init_25 rfl ?_
  refine aw_iload dX14_init_26 rfl ?_
  refine pF_X14_24_12 rfl rfl dX14_init_28 (aob_imf (aob_imf (aob_imf (aob_imf ho)))) ?_
  refine aw_ret dX14_init_31 rfl ?_
  exact hQ _ (aob_imf (aob_imf (aob_imf (aob_imf (aob_imf ho))))) ⟨by (repeat (first | rw [imf_s, if_pos rfl] | rw [imf_s, if_neg (by decide)])), by (repeat (first | rw [imf_s, if_pos rfl] | rw [imf_s, if_neg (by decide)])), by (repeat (first | rw [imf_s, if_pos rfl] | rw [imf_s, if_neg (by decide)])), by (repeat (first | rw [imf_s, if_pos rfl] | rw [imf_s, if_neg (by decide)])), by (repeat (first | rw [imf_s, if_pos rfl] | rw [imf_s, if_neg (by decide)]))⟩ (fun b hb => by rw [imf_n hb, imf_n hb, imf_n hb, imf_n hb, imf_n hb])
theorem C_x_blkinit10 {sz : Int} {im : Int → aIm} {ct : Int → Int → Int} {a : Int} {Q : aPost} (ho : aob sz im a 10) (hQ : ∀ (im1 : Int → aIm) (ct1 : Int → Int → Int), aob (sz + 1) im1 a 10 → aar (sz + 1) im1 sz 8 4 → (∀ x, x < sz → im1 x = im x) → (∀ x j, x < sz → ¬ (x = a ∧ j = 0) → ct1 x j = ct x j) → ct1 a 0 = sz → Q (.inl none) (sz + 1, im1, ct1)) : AMet md_X11_init 2 1 4 [vR a] (sz, im, ct) Q := by
  refine AMet.go (L := [some (vR a)]) mok_X11_init (Nat.le_of_ble_eq_true rfl) rfl ?_
  have ha := ho.1
  have ha1 := ho.2.1
  refine aw_aload_n dX11_init_0 rfl ?_
  refine c_X11_1a (kc1 := 0) (ks1 := 0) (kc2 := 1) (ks2 := 4) (by decide) (by decide) rfl dX11_init_1 (by omega) (Nat.le_of_ble_eq_true rfl) (by omega) (C_x_stepinit (by omega) (by omega) ?_)
  refine aK_v ?_
  refine aw_aload_n dX11_init_4 rfl ?_
  refine aw_iconst dX11_init_5 (by decide) ?_
  refine AW.widen (kc' := 0 + 1) (ks' := 0 + (4 : Int).toNat) (by first | decide | omega) (by first | decide | omega) (aw_anew (t := 8) dX11_init_6 q897 (by decide) (by decide) rfl (by first | decide | simp [awAO]) (by first | decide | omega) (by first | decide | omega) ?_)
  refine p_X11_7_10 rfl dX11_init_9 (aob_new ho) ?_
  refine aw_ret dX11_init_12 rfl ?_
  exact hQ _ _ (aob_new ho) ⟨by omega, by omega, by rw [upA_s]; exact ⟨rfl, rfl⟩⟩ (fun x hx => upA_n (by omega)) (fun x j hx hn => by rw [aup_n hn, upA_n (by omega)]) aup_s
theorem C_x_blkinit11 {sz : Int} {im : Int → aIm} {ct : Int → Int → Int} {a : Int} {Q : aPost} (ho : aob sz im a 11) (hQ : ∀ (im1 : Int → aIm) (ct1 : Int → Int → Int), aob (sz + 1) im1 a 11 → aar (sz + 1) im1 sz 8 4 → (∀ x, x < sz → im1 x = im x) → (∀ x j, x < sz → ¬ (x = a ∧ j = 0) → ct1 x j = ct x j) → ct1 a 0 = sz → Q (.inl none) (sz + 1, im1, ct1)) : AMet md_X11_init 2 1 4 [vR a] (sz, im, ct) Q := by
  refine AMet.go (L := [some (vR a)]) mok_X11_init (Nat.le_of_ble_eq_true rfl) rfl ?_
  have ha := ho.1
  have ha1 := ho.2.1
  refine aw_aload_n dX11_init_0 rfl ?_
  refine c_X11_1a (kc1 := 0) (ks1 := 0) (kc2 := 1) (ks2 := 4) (by decide) (by decide) rfl dX11_init_1 (by omega) (Nat.le_of_ble_eq_true rfl) (by omega) (C_x_stepinit (by omega) (by omega) ?_)
  refine aK_v ?_
  refine aw_aload_n dX11_init_4 rfl ?_
  refine aw_iconst dX11_init_5 (by decide) ?_
  refine AW.widen (kc' := 0 + 1) (ks' := 0 + (4 : Int).toNat) (by first | decide | omega) (by first | decide | omega) (aw_anew (t := 8) dX11_init_6 q897 (by decide) (by decide) rfl (by first | decide | simp [awAO]) (by first | decide | omega) (by first | decide | omega) ?_)
  refine p_X11_7_11 rfl dX11_init_9 (aob_new ho) ?_
  refine aw_ret dX11_init_12 rfl ?_
  exact hQ _ _ (aob_new ho) ⟨by omega, by omega, by rw [upA_s]; exact ⟨rfl, rfl⟩⟩ (fun x hx => upA_n (by omega)) (fun x j hx hn => by rw [aup_n hn, upA_n (by omega)]) aup_s
theorem C_x_loopinit {sz : Int} {im : Int → aIm} {ct : Int → Int → Int} {a : Int} {t : Int} {Q : aPost} (ho : aob sz im a 10) (hQ : ∀ (im1 : Int → aIm) (ct1 : Int → Int → Int), aob (sz + 1) im1 a 10 → aar (sz + 1) im1 sz 8 4 → ((im1 a).2.2 2 = t) → (∀ x, x < sz → x ≠ a → im1 x = im x) → (∀ x j, x < sz → ¬ (x = a ∧ j = 0) → ct1 x j = ct x j) → ct1 a 0 = sz → Q (.inl none) (sz + 1, im1, ct1)) : AMet md_X12_init 3 1 4 [vR a, vI t] (sz, im, ct) Q := by
  refine AMet.go (L := [some (vR a), some (vI t)]) mok_X12_init (Nat.le_of_ble_eq_true rfl) rfl ?_
  have ha := ho.1
  have ha1 := ho.2.1
  refine aw_aload_n dX12_init_0 rfl ?_
  refine c_X12_1a (kc1 := 1) (ks1 := 4) (kc2 := 0) (ks2 := 0) (by decide) (by decide) rfl dX12_init_1 (by omega) (Nat.le_of_ble_eq_true rfl) (by omega) (C_x_blkinit10 ho (fun im1 ct1 ho1 ar1 i1 c1 e1 => ?_))
  refine aK_v ?_
  refine aw_aload_n dX12_init_4 rfl ?_
  refine aw_iload_n dX12_init_5 rfl ?_
  refine pF_X12_7_10 rfl rfl dX12_init_6 ho1 ?_
  refine aw_ret dX12_init_9 rfl ?_
  exact hQ _ _ (aob_imf ho1) (aar_imf ar1) (by (repeat (first | rw [imf_s, if_pos rfl] | rw [imf_s, if_neg (by decide)]))) (fun x hx hxa => by rw [imf_n hxa]; exact i1 x hx) c1 e1
theorem C_x_wheninit {sz : Int} {im : Int → aIm} {ct : Int → Int → Int} {a : Int} {w x y z : Int} {Q : aPost} (ho : aob sz im a 11) (hQ : ∀ (im1 : Int → aIm) (ct1 : Int → Int → Int), aob (sz + 1) im1 a 11 → aar (sz + 1) im1 sz 8 4 → ((im1 a).2.2 2 = w ∧ (im1 a).2.2 3 = x ∧ (im1 a).2.2 4 = y ∧ (im1 a).2.2 5 = z) → (∀ x, x < sz → x ≠ a → im1 x = im x) → (∀ x j, x < sz → ¬ (x = a ∧ j = 0) → ct1 x j = ct x j) → ct1 a 0 = sz → Q (.inl none) (sz + 1, im1, ct1)) : AMet md_X13_init 3 1 4 [vR a, vI w, vI x, vI y, vI z] (sz, im, ct) Q := by
  refine AMet.go (L := [some (vR a), some (vI w), some (vI x), some (vI y), some (vI z)]) mok_X13_init (Nat.le_of_ble_eq_true rfl) rfl ?_
  have ha := ho.1
  have ha1 := ho.2.1
  refine aw_aload_n dX13_init_0 rfl ?_
  refine c_X13_3a (kc1 := 1) (ks1 := 4) (kc2 := 0) (ks2 := 0) (by decide) (by decide) rfl dX13_init_1 (by omega) (Nat.le_of_ble_eq_true rfl) (by omega) (C_x_blkinit11 ho (fun im1 ct1 ho1 ar1 i1 c1 e1 => ?_))
  refine aK_v ?_
  refine aw_aload_n dX13_init_4 rfl ?_
  refine aw_iload_n dX13_init_5 rfl ?_
  refine pF_X13_9_11 rfl rfl dX13_init_6 ho1 ?_
  refine aw_aload_n dX13_init_9 rfl ?_
  refine aw_iload_n dX13_init_10 rfl ?_
  refine pF_X13_15_11 rfl rfl dX13_init_11 (aob_imf ho1) ?_
  refine aw_aload_n dX13_init_14 rfl ?_
  refine aw_iload_n dX13_init_15 rfl ?_
  refine pF_X13_18_11 rfl rfl dX13_init_16 (aob_imf (aob_imf ho1)) ?_
  refine aw_aload_n dX13_init_19 rfl ?_
  refine aw_iload dX13_init_20 rfl ?_
  refine pF_X13_21_11 rfl rfl dX13_init_22 (aob_imf (aob_imf (aob_imf ho1))) ?_
  refine aw_ret dX13_init_25 rfl ?_
  exact hQ _ _ (aob_imf (aob_imf (aob_imf (aob_imf ho1)))) (aar_imf (aar_imf (aar_imf (aar_imf ar1)))) (⟨by (repeat (first | rw [imf_s, if_pos rfl] | rw [imf_s, if_neg (by decide)])), by (repeat (first | rw [imf_s, if_pos rfl] | rw [imf_s, if_neg (by decide)])), by (repeat (first | rw [imf_s, if_pos rfl] | rw [imf_s, if_neg (by decide)])), by (repeat (first | rw [imf_s, if_pos rfl] | rw [imf_s, if_neg (by decide)]))⟩) (fun x hx hxa => by rw [imf_n hxa, imf_n hxa, imf_n hxa, imf_n hxa]; exact i1 x hx) c1 e1
theorem mayS.mono {sz sz' : Int} {im im' : Int → aIm} {t : Nat} {v : Int} (h : mayS sz im t v) (hz : sz ≤ sz') (hi : ∀ x, x < sz → im' x = im x) : mayS sz' im' t v := by
  rcases h with ⟨c, q, ho, hq, hk⟩ | ⟨h7, N, ha⟩
  · exact Or.inl ⟨c, q, ⟨ho.1, by have := ho.2.1; omega, by rw [hi _ ho.2.1]; exact ho.2.2⟩, hq, hk⟩
  · exact Or.inr ⟨h7, N, ha.1, by have := ha.2.1; omega, by rw [hi _ ha.2.1]; exact ha.2.2⟩
theorem C_x_add10 {sz : Int} {im : Int → aIm} {ct : Int → Int → Int} {a : Int} {o cap m t : Int} {Q : aPost} (ho : aob sz im a 10) (e0 : ct a 0 = t) (e1 : ct a 1 = m) (hA : aar sz im t 8 cap) (hm : 0 ≤ m ∧ m ≤ cap ∧ m ≤ 60) (hc : 1 ≤ cap) (hta : t ≠ a) (hs : mayS sz im 8 o) (hel : ∀ j, 0 ≤ j → j < m → mayS sz im 8 (ct t j)) (hQ : ∀ (sz1 : Int) (im1 : Int → aIm) (ct1 : Int → Int → Int) (t1 cap1 : Int), sz ≤ sz1 → (∀ x, x < sz → im1 x = im x) → (∀ x, x < sz → x ≠ a → x ≠ t → ct1 x = ct x) → (∀ j, j ≠ 0 → j ≠ 1 → ct1 a j = ct a j) → (t1 = t ∨ (t1 = sz ∧ sz1 = sz + 1)) → aar sz1 im1 t1 8 cap1 → 1 ≤ cap1 → m + 1 ≤ cap1 → ct1 a 0 = t1 → ct1 a 1 = m + 1 → (∀ j, 0 ≤ j → j < m → ct1 t1 j = ct t j) → ct1 t1 m = o → Q (.inl none) (sz1, im1, ct1)) : AMet md_X11_add 1 1 120 [vR a, vR o] (sz, im, ct) Q := by
  refine AMet.go (L := [some (vR a), some (vR o), none]) mok_X11_add (Nat.le_of_ble_eq_true rfl) rfl ?_
  have ha := ho.1
  have ha1 := ho.2.1
  have ht0 := hA.1
  have ht1 := hA.2.1
  refine aw_aload_n dX11_add_0 rfl ?_
  refine g_X11_13_10 rfl dX11_add_1 ho ?_
  first
    | rw [e1]
    | (rw [upA_n (by omega), e1])
  refine aw_aload_n dX11_add_4 rfl ?_
  refine g_X11_7_10 rfl dX11_add_5 ho ?_
  first
    | rw [e0]
    | (rw [upA_n (by omega), e0])
  refine aw_alen dX11_add_8 hA ?_
  refine aw_icmpne (tgt := 41) dX11_add_9 (by decide) (fun h9 => ?_) (fun h9 => ?_)
  · refine AW.widen (kc' := 0) (ks' := 0) (by decide) (by decide) ?_
    refine aw_aload_n dX11_add_41 rfl ?_
    refine g_X11_7_10 rfl dX11_add_42 ho ?_
    rw [e0]
    refine aw_aload_n dX11_add_45 rfl ?_
    refine g_X11_13_10 rfl dX11_add_46 ho ?_
    first
      | rw [e1]
      | rw [aup_rn (by omega), e1]
    refine aw_aload_n dX11_add_49 rfl ?_
    refine aw_aastore (t := 8) dX11_add_50 hA (by decide) (by omega) (by omega) hs ?_
    refine aw_aload_n dX11_add_51 rfl ?_
    refine aw_dup dX11_add_52 rfl ?_
    refine g_X11_13_10 rfl dX11_add_53 ho ?_
    first
      | rw [e1]
      | rw [aup_rn (by omega), e1]
    refine aw_iconst dX11_add_56 (by decide) ?_
    refine aw_iaddr dX11_add_57 (by omega) ?_
    refine p_X11_13_10 rfl dX11_add_58 ho ?_
    refine aw_ret dX11_add_61 rfl ?_
    exact hQ sz im _ t cap (Int.le_refl _) (fun _ _ => rfl) (fun x hx h1 h2 => by rw [aup_rn h1, aup_rn h2]) (fun j j0 j1 => by rw [aup_n (by omega), aup_rn (by omega)]) (Or.inl rfl) hA hc (by omega) (by rw [aup_n (by omega), aup_rn (by omega)]; exact e0) aup_s (fun j j0 j1 => by rw [aup_n (by omega), aup_n (by omega)]) (by rw [aup_n (by omega)]; exact aup_s)
  · refine aw_iconst dX11_add_12 (by decide) ?_
    refine aw_aload_n dX11_add_13 rfl ?_
    refine g_X11_13_10 rfl dX11_add_14 ho ?_
    first
      | rw [e1]
      | (rw [upA_n (by omega), e1])
    refine aw_imulr dX11_add_17 (by omega) ?_
    refine AW.widen (kc' := 0 + 1) (ks' := 0 + (2 * m : Int).toNat) (by first | decide | omega) (by first | decide | omega) (aw_anew (t := 8) dX11_add_18 q897 (by decide) (by decide) rfl (by first | decide | simp [awAO]) (by first | decide | omega) (by first | decide | omega) ?_)
    have hi1 : ∀ x, x < sz → upA im sz (50 + 8, (2 * m : Int).toNat, fun _ => 0) x = im x := fun x hx => upA_n (by omega)
    have ho1 : aob (sz + 1) (upA im sz (50 + 8, (2 * m : Int).toNat, fun _ => 0)) a 10 := aob_new ho
    have hB : aar (sz + 1) (upA im sz (50 + 8, (2 * m : Int).toNat, fun _ => 0)) sz 8 (2 * m) := ⟨by omega, by omega, by rw [upA_s]; exact ⟨rfl, Int.toNat_of_nonneg (by omega)⟩⟩
    refine aw_astore2 dX11_add_21 (by decide) rfl ?_
    refine aw_aload_n dX11_add_22 rfl ?_
    refine g_X11_7_10 rfl dX11_add_23 ho1 ?_
    first
      | rw [e0]
      | (rw [upA_n (by omega), e0])
    refine aw_iconst dX11_add_26 (by decide) ?_
    refine aw_aload_n dX11_add_27 rfl ?_
    refine aw_iconst dX11_add_28 (by decide) ?_
    refine aw_aload_n dX11_add_29 rfl ?_
    refine g_X11_13_10 rfl dX11_add_30 ho1 ?_
    first
      | rw [e1]
      | (rw [upA_n (by omega), e1])
    refine aw_copyr dX11_add_33 q988 q545 q544 q131 (by decide) (t := 8) (Na := cap) (Nb := 2 * m) ⟨hA.1, by omega, by rw [upA_n (by omega)]; exact hA.2.2⟩ hB (by omega) (by omega) (by omega) (by omega) (by omega) (fun j j0 j1 => by rw [Int.zero_add, upA_n (by omega)]; exact (hel j j0 j1).mono (by omega) hi1) (Nat.le_of_ble_eq_true rfl) (by omega) ?_
    refine aw_aload_n dX11_add_36 rfl ?_
    refine aw_aload_n dX11_add_37 rfl ?_
    refine p_X11_7_10 rfl dX11_add_38 ho1 ?_
    refine aw_aload_n dX11_add_41 rfl ?_
    refine g_X11_7_10 rfl dX11_add_42 ho1 ?_
    rw [aup_s]
    refine aw_aload_n dX11_add_45 rfl ?_
    refine g_X11_13_10 rfl dX11_add_46 ho1 ?_
    rw [aup_n (show ¬ (a = a ∧ (1 : Int) = 0) by omega)]
    try unfold acp
    rw [upA_n (show a ≠ sz by omega), upA_n (show a ≠ sz by omega), e1]
    refine aw_aload_n dX11_add_49 rfl ?_
    refine aw_aastore (t := 8) dX11_add_50 hB (by decide) (by omega) (by omega) (hs.mono (by omega) hi1) ?_
    refine aw_aload_n dX11_add_51 rfl ?_
    refine aw_dup dX11_add_52 rfl ?_
    refine g_X11_13_10 rfl dX11_add_53 ho1 ?_
    rw [aup_n (show ¬ (a = sz ∧ (1 : Int) = m) by omega), aup_n (show ¬ (a = a ∧ (1 : Int) = 0) by omega)]
    try unfold acp
    rw [upA_n (show a ≠ sz by omega), upA_n (show a ≠ sz by omega), e1]
    refine aw_iconst dX11_add_56 (by decide) ?_
    refine aw_iaddr dX11_add_57 (by omega) ?_
    refine p_X11_13_10 rfl dX11_add_58 ho1 ?_
    refine aw_ret dX11_add_61 rfl ?_
    refine hQ (sz + 1) _ _ sz (2 * m) (by omega) hi1 (fun x hx h1 h2 => ?_) (fun j j0 j1 => ?_) (Or.inr ⟨rfl, rfl⟩) hB (by omega) (by omega) (by rw [aup_n (by omega), aup_rn (by omega)]; exact aup_s) aup_s (fun j j0 j1 => ?_) (by rw [aup_n (by omega)]; exact aup_s)
    · rw [aup_rn h1, aup_rn (by omega), aup_rn h1]
      try unfold acp
      rw [upA_n (by omega), upA_n (by omega)]
    · rw [aup_n (by omega), aup_rn (by omega), aup_n (by omega)]
      try unfold acp
      rw [upA_n (by omega), upA_n (by omega)]
    · rw [aup_n (by omega), aup_n (by omega), aup_rn (by omega)]
      try unfold acp
      rw [upA_s, if_pos (by omega), upA_n (by omega), Int.zero_add, Int.sub_zero]
theorem C_x_add11 {sz : Int} {im : Int → aIm} {ct : Int → Int → Int} {a : Int} {o cap m t : Int} {Q : aPost} (ho : aob sz im a 11) (e0 : ct a 0 = t) (e1 : ct a 1 = m) (hA : aar sz im t 8 cap) (hm : 0 ≤ m ∧ m ≤ cap ∧ m ≤ 60) (hc : 1 ≤ cap) (hta : t ≠ a) (hs : mayS sz im 8 o) (hel : ∀ j, 0 ≤ j → j < m → mayS sz im 8 (ct t j)) (hQ : ∀ (sz1 : Int) (im1 : Int → aIm) (ct1 : Int → Int → Int) (t1 cap1 : Int), sz ≤ sz1 → (∀ x, x < sz → im1 x = im x) → (∀ x, x < sz → x ≠ a → x ≠ t → ct1 x = ct x) → (∀ j, j ≠ 0 → j ≠ 1 → ct1 a j = ct a j) → (t1 = t ∨ (t1 = sz ∧ sz1 = sz + 1)) → aar sz1 im1 t1 8 cap1 → 1 ≤ cap1 → m + 1 ≤ cap1 → ct1 a 0 = t1 → ct1 a 1 = m + 1 → (∀ j, 0 ≤ j → j < m → ct1 t1 j = ct t j) → ct1 t1 m = o → Q (.inl none) (sz1, im1, ct1)) : AMet md_X11_add 1 1 120 [vR a, vR o] (sz, im, ct) Q := by
  refine AMet.go (L := [some (vR a), some (vR o), none]) mok_X11_add (Nat.le_of_ble_eq_true rfl) rfl ?_
  have ha := ho.1
  have ha1 := ho.2.1
  have ht0 := hA.1
  have ht1 := hA.2.1
  refine aw_aload_n dX11_add_0 rfl ?_
  refine g_X11_13_11 rfl dX11_add_1 ho ?_
  first
    | rw [e1]
    | (rw [upA_n (by omega), e1])
  refine aw_aload_n dX11_add_4 rfl ?_
  refine g_X11_7_11 rfl dX11_add_5 ho ?_
  first
    | rw [e0]
    | (rw [upA_n (by omega), e0])
  refine aw_alen dX11_add_8 hA ?_
  refine aw_icmpne (tgt := 41) dX11_add_9 (by decide) (fun h9 => ?_) (fun h9 => ?_)
  · refine AW.widen (kc' := 0) (ks' := 0) (by decide) (by decide) ?_
    refine aw_aload_n dX11_add_41 rfl ?_
    refine g_X11_7_11 rfl dX11_add_42 ho ?_
    rw [e0]
    refine aw_aload_n dX11_add_45 rfl ?_
    refine g_X11_13_11 rfl dX11_add_46 ho ?_
    first
      | rw [e1]
      | rw [aup_rn (by omega), e1]
    refine aw_aload_n dX11_add_49 rfl ?_
    refine aw_aastore (t := 8) dX11_add_50 hA (by decide) (by omega) (by omega) hs ?_
    refine aw_aload_n dX11_add_51 rfl ?_
    refine aw_dup dX11_add_52 rfl ?_
    refine g_X11_13_11 rfl dX11_add_53 ho ?_
    first
      | rw [e1]
      | rw [aup_rn (by omega), e1]
    refine aw_iconst dX11_add_56 (by decide) ?_
    refine aw_iaddr dX11_add_57 (by omega) ?_
    refine p_X11_13_11 rfl dX11_add_58 ho ?_
    refine aw_ret dX11_add_61 rfl ?_
    exact hQ sz im _ t cap (Int.le_refl _) (fun _ _ => rfl) (fun x hx h1 h2 => by rw [aup_rn h1, aup_rn h2]) (fun j j0 j1 => by rw [aup_n (by omega), aup_rn (by omega)]) (Or.inl rfl) hA hc (by omega) (by rw [aup_n (by omega), aup_rn (by omega)]; exact e0) aup_s (fun j j0 j1 => by rw [aup_n (by omega), aup_n (by omega)]) (by rw [aup_n (by omega)]; exact aup_s)
  · refine aw_iconst dX11_add_12 (by decide) ?_
    refine aw_aload_n dX11_add_13 rfl ?_
    refine g_X11_13_11 rfl dX11_add_14 ho ?_
    first
      | rw [e1]
      | (rw [upA_n (by omega), e1])
    refine aw_imulr dX11_add_17 (by omega) ?_
    refine AW.widen (kc' := 0 + 1) (ks' := 0 + (2 * m : Int).toNat) (by first | decide | omega) (by first | decide | omega) (aw_anew (t := 8) dX11_add_18 q897 (by decide) (by decide) rfl (by first | decide | simp [awAO]) (by first | decide | omega) (by first | decide | omega) ?_)
    have hi1 : ∀ x, x < sz → upA im sz (50 + 8, (2 * m : Int).toNat, fun _ => 0) x = im x := fun x hx => upA_n (by omega)
    have ho1 : aob (sz + 1) (upA im sz (50 + 8, (2 * m : Int).toNat, fun _ => 0)) a 11 := aob_new ho
    have hB : aar (sz + 1) (upA im sz (50 + 8, (2 * m : Int).toNat, fun _ => 0)) sz 8 (2 * m) := ⟨by omega, by omega, by rw [upA_s]; exact ⟨rfl, Int.toNat_of_nonneg (by omega)⟩⟩
    refine aw_astore2 dX11_add_21 (by decide) rfl ?_
    refine aw_aload_n dX11_add_22 rfl ?_
    refine g_X11_7_11 rfl dX11_add_23 ho1 ?_
    first
      | rw [e0]
      | (rw [upA_n (by omega), e0])
    refine aw_iconst dX11_add_26 (by decide) ?_
    refine aw_aload_n dX11_add_27 rfl ?_
    refine aw_iconst dX11_add_28 (by decide) ?_
    refine aw_aload_n dX11_add_29 rfl ?_
    refine g_X11_13_11 rfl dX11_add_30 ho1 ?_
    first
      | rw [e1]
      | (rw [upA_n (by omega), e1])
    refine aw_copyr dX11_add_33 q988 q545 q544 q131 (by decide) (t := 8) (Na := cap) (Nb := 2 * m) ⟨hA.1, by omega, by rw [upA_n (by omega)]; exact hA.2.2⟩ hB (by omega) (by omega) (by omega) (by omega) (by omega) (fun j j0 j1 => by rw [Int.zero_add, upA_n (by omega)]; exact (hel j j0 j1).mono (by omega) hi1) (Nat.le_of_ble_eq_true rfl) (by omega) ?_
    refine aw_aload_n dX11_add_36 rfl ?_
    refine aw_aload_n dX11_add_37 rfl ?_
    refine p_X11_7_11 rfl dX11_add_38 ho1 ?_
    refine aw_aload_n dX11_add_41 rfl ?_
    refine g_X11_7_11 rfl dX11_add_42 ho1 ?_
    rw [aup_s]
    refine aw_aload_n dX11_add_45 rfl ?_
    refine g_X11_13_11 rfl dX11_add_46 ho1 ?_
    rw [aup_n (show ¬ (a = a ∧ (1 : Int) = 0) by omega)]
    try unfold acp
    rw [upA_n (show a ≠ sz by omega), upA_n (show a ≠ sz by omega), e1]
    refine aw_aload_n dX11_add_49 rfl ?_
    refine aw_aastore (t := 8) dX11_add_50 hB (by decide) (by omega) (by omega) (hs.mono (by omega) hi1) ?_
    refine aw_aload_n dX11_add_51 rfl ?_
    refine aw_dup dX11_add_52 rfl ?_
    refine g_X11_13_11 rfl dX11_add_53 ho1 ?_
    rw [aup_n (show ¬ (a = sz ∧ (1 : Int) = m) by omega), aup_n (show ¬ (a = a ∧ (1 : Int) = 0) by omega)]
    try unfold acp
    rw [upA_n (show a ≠ sz by omega), upA_n (show a ≠ sz by omega), e1]
    refine aw_iconst dX11_add_56 (by decide) ?_
    refine aw_iaddr dX11_add_57 (by omega) ?_
    refine p_X11_13_11 rfl dX11_add_58 ho1 ?_
    refine aw_ret dX11_add_61 rfl ?_
    refine hQ (sz + 1) _ _ sz (2 * m) (by omega) hi1 (fun x hx h1 h2 => ?_) (fun j j0 j1 => ?_) (Or.inr ⟨rfl, rfl⟩) hB (by omega) (by omega) (by rw [aup_n (by omega), aup_rn (by omega)]; exact aup_s) aup_s (fun j j0 j1 => ?_) (by rw [aup_n (by omega)]; exact aup_s)
    · rw [aup_rn h1, aup_rn (by omega), aup_rn h1]
      try unfold acp
      rw [upA_n (by omega), upA_n (by omega)]
    · rw [aup_n (by omega), aup_rn (by omega), aup_n (by omega)]
      try unfold acp
      rw [upA_n (by omega), upA_n (by omega)]
    · rw [aup_n (by omega), aup_n (by omega), aup_rn (by omega)]
      try unfold acp
      rw [upA_s, if_pos (by omega), upA_n (by omega), Int.zero_add, Int.sub_zero]
