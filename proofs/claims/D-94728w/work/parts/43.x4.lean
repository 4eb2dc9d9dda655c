set_option maxRecDepth 100000
/-! BeeYard, 4: a hive becomes as another is -/
theorem L_x_hbe {sz : Int} {im : Int → aIm} {ct : Int → Int → Int} {a b n : Int} {Q : aPost} {d kc ks : Nat} {cb : Int → Int} (hd : 1 ≤ d) (hS : HvS sz im a n) (hSb : HvS sz im b n) (hCb : HvC sz im ct b n cb) (hD : hvD im ct a n b n)
    (K : ∀ (ct' : Int → Int → Int) (k : Int), HvC sz im ct' a n cb → (∀ x j, ¬ hvf im ct a n x → ct' x j = ct x j) → (∀ j, ct' ((im a).2.2 1) j = ct ((im a).2.2 1) j) → AW (mq Q) md_X9_be d kc ks 36 [some (vR a), some (vR b), some (vI k)] [] (sz, im, ct')) : ∀ (r : Nat) (f : Int) (ct1 : Int → Int → Int) (c : Int → Int), f + r = n → 0 ≤ f → HvC sz im ct1 a n c → (∀ i, 0 ≤ i → i < 16 * f → c i = cb i) → (∀ x j, ¬ hvf im ct a n x → ct1 x j = ct x j) → (∀ j, ct1 ((im a).2.2 1) j = ct ((im a).2.2 1) j) →
    AW (mq Q) md_X9_be d kc ks 2 [some (vR a), some (vR b), some (vI f)] [] (sz, im, ct1) := by
  intro r
  induction r with
  | zero =>
    intro f ct1 c h2 h3 hC hz hs hg
    have hn1 := hS.2.2.2.1
    have hn2 := hS.2.2.2.2
    refine aw_iload_n dX9_be_2 rfl ?_
    refine aw_aload_n dX9_be_3 rfl ?_
    refine g_X9_21_9 rfl dX9_be_4 hS.1 ?_
    refine aw_alen dX9_be_7 hS.2.1 ?_
    refine aw_icmpge (tgt := 36) dX9_be_8 (by decide) (fun h8 => ?_) (fun h8 => ?_)
    · exact K ct1 _ (hC.cong fun i i0 i1 => hz i i0 (by omega)) hs hg
    · exfalso; omega
  | succ r ih =>
    intro f ct1 c h2 h3 hC hz hs hg
    have hn1 := hS.2.2.2.1
    have hn2 := hS.2.2.2.2
    have hA := hC.2.1 f (by omega) (by omega)
    have hB := HvC.apart (ct' := ct1) hSb hCb hs hD (by rw [← hvf_put hg]; exact hvf_k hC hSb.2.1 (by decide)) (by rw [← hvf_put hg]; exact hvf_k hC hSb.2.2.1 (by decide))
    have hAb := hB.1.2.1 f (by omega) (by omega)
    have hp := HvC.cpy (g := cb) (src := ct1 ((im b).2.2 1) f) (f := f) hS hC (by omega) (by omega) (fun j j0 j1 => hB.1.2.2.2 f j (by omega) (by omega) j0 j1)
    refine aw_iload_n dX9_be_2 rfl ?_
    refine aw_aload_n dX9_be_3 rfl ?_
    refine g_X9_21_9 rfl dX9_be_4 hS.1 ?_
    refine aw_alen dX9_be_7 hS.2.1 ?_
    refine aw_icmpge (tgt := 36) dX9_be_8 (by decide) (fun h8 => ?_) (fun h8 => ?_)
    · exfalso; omega
    · refine aw_aload_n dX9_be_11 rfl ?_
      refine g_X9_21_9 rfl dX9_be_12 hSb.1 ?_
      refine aw_iload_n dX9_be_15 rfl ?_
      refine aw_aaload dX9_be_16 hSb.2.1 (by decide) (by omega) (by omega) ?_
      refine aw_iconst dX9_be_17 (by decide) ?_
      refine aw_aload_n dX9_be_18 rfl ?_
      refine g_X9_21_9 rfl dX9_be_19 hS.1 ?_
      refine aw_iload_n dX9_be_22 rfl ?_
      refine aw_aaload dX9_be_23 hS.2.1 (by decide) (by omega) (by omega) ?_
      refine aw_iconst dX9_be_24 (by decide) ?_
      refine aw_bipush dX9_be_25 (by decide) ?_
      refine aw_copys (t := 1) dX9_be_27 q875 q545 q544 q131 (by decide) hAb hA (by omega) (by omega) (by omega) (by omega) (by omega) (Nat.le_of_ble_eq_true rfl) (by omega) ?_
      refine aw_iinc2r dX9_be_30 (by decide) (by decide) rfl (by omega) ?_
      refine aw_goto (tgt := 2) dX9_be_33 (by decide) ?_
      refine ih _ _ _ (by omega) (by omega) hp.1 (fun i i0 i1 => ?_) (fun x i hx => ?_) (fun i => ?_)
      · by_cases hi : 16 * f ≤ i ∧ i < 16 * f + 16
        · rw [if_pos hi]
        · rw [if_neg hi]; exact hz i i0 (by omega)
      · rw [acp_n (fun z => hx ⟨f, by omega, by omega, by rw [z, hg]⟩)]; exact hs x i hx
      · rw [hp.2]; exact hg i
theorem C_x_hbe {sz : Int} {im : Int → aIm} {ct : Int → Int → Int} {a b n : Int} {ca cb : Int → Int} {Q : aPost} (hab : a ≠ b) (hS : HvS sz im a n) (hC : HvC sz im ct a n ca) (hSb : HvS sz im b n) (hCb : HvC sz im ct b n cb) (hD : hvD im ct a n b n)
    (hQ : ∀ (ct' : Int → Int → Int), HvC sz im ct' a n cb → ct' a 3 = ct b 3 → ct' a 4 = ct b 4 → ct' a 5 = ct b 5 → ct' a 6 = ct b 6 → ct' a 7 = ct b 7 → (∀ j, j < 3 ∨ 7 < j → ct' a j = ct a j) → (∀ x j, x ≠ a → ¬ hvf im ct a n x → ct' x j = ct x j) → (∀ j, ct' ((im a).2.2 1) j = ct ((im a).2.2 1) j) → Q (.inl none) (sz, im, ct')) : AMet md_X9_be 2 0 0 [vR a, vR b] (sz, im, ct) Q := by
  refine AMet.go (L := [some (vR a), some (vR b), none]) mok_X9_be (Nat.le_of_ble_eq_true rfl) rfl ?_
  have hn1 := hS.2.2.2.1
  have hn2 := hS.2.2.2.2
  have hna := hvf_self hS hC
  have hnb := hvf_o hC hSb.1 (by decide)
  refine aw_iconst dX9_be_0 (by decide) ?_
  refine aw_istore2 dX9_be_1 (by decide) rfl ?_
  refine L_x_hbe (ct := ct) (by omega) hS hSb hCb hD (fun ct1 k1 hC1 hs1 hg1 => ?_) n.toNat 0 ct ca (by omega) (by omega) hC (fun i i0 i1 => by omega) (fun _ _ _ => rfl) (fun _ => rfl)
  have hC2 := hC1.self hS (i := 3) (v := ct b 3)
  have hC3 := hC2.1.self hS (i := 4) (v := ct b 4)
  have hC4 := hC3.1.self hS (i := 5) (v := ct b 5)
  have hC5 := hC4.1.self hS (i := 6) (v := ct b 6)
  have hC6 := hC5.1.self hS (i := 7) (v := ct b 7)
  have hba : ¬ b = a := fun z => hab z.symm
  refine aw_aload_n dX9_be_36 rfl ?_
  refine aw_aload_n dX9_be_37 rfl ?_
  refine g_X9_34_9 rfl dX9_be_38 hSb.1 ?_
  rw [hs1 _ _ hnb]
  refine p_X9_34_9 rfl dX9_be_41 hS.1 ?_
  refine aw_aload_n dX9_be_44 rfl ?_
  refine aw_aload_n dX9_be_45 rfl ?_
  refine g_X9_37_9 rfl dX9_be_46 hSb.1 ?_
  rw [aup_n (fun z => hba z.1), hs1 _ _ hnb]
  refine p_X9_37_9 rfl dX9_be_49 hS.1 ?_
  refine aw_aload_n dX9_be_52 rfl ?_
  refine aw_aload_n dX9_be_53 rfl ?_
  refine g_X9_9_9 rfl dX9_be_54 hSb.1 ?_
  rw [aup_n (fun z => hba z.1), aup_n (fun z => hba z.1), hs1 _ _ hnb]
  refine p_X9_9_9 rfl dX9_be_57 hS.1 ?_
  refine aw_aload_n dX9_be_60 rfl ?_
  refine aw_aload_n dX9_be_61 rfl ?_
  refine g_X9_40_9 rfl dX9_be_62 hSb.1 ?_
  rw [aup_n (fun z => hba z.1), aup_n (fun z => hba z.1), aup_n (fun z => hba z.1), hs1 _ _ hnb]
  refine p_X9_40_9 rfl dX9_be_65 hS.1 ?_
  refine aw_aload_n dX9_be_68 rfl ?_
  refine aw_aload_n dX9_be_69 rfl ?_
  refine g_X9_43_9 rfl dX9_be_70 hSb.1 ?_
  rw [aup_n (fun z => hba z.1), aup_n (fun z => hba z.1), aup_n (fun z => hba z.1), aup_n (fun z => hba z.1), hs1 _ _ hnb]
  refine p_X9_43_9 rfl dX9_be_73 hS.1 ?_
  refine aw_ret dX9_be_76 rfl ?_
  refine hQ _ hC6.1 ?_ ?_ ?_ ?_ ?_ (fun j hj => ?_) (fun x j hxa hx => ?_) (fun j => ?_)
  · rw [aup_n (by omega), aup_n (by omega), aup_n (by omega), aup_n (by omega), aup_s]
  · rw [aup_n (by omega), aup_n (by omega), aup_n (by omega), aup_s]
  · rw [aup_n (by omega), aup_n (by omega), aup_s]
  · rw [aup_n (by omega), aup_s]
  · rw [aup_s]
  · rw [aup_n (by omega), aup_n (by omega), aup_n (by omega), aup_n (by omega), aup_n (by omega), hs1 _ _ hna]
  · rw [aup_n (fun z => hxa z.1), aup_n (fun z => hxa z.1), aup_n (fun z => hxa z.1), aup_n (fun z => hxa z.1), aup_n (fun z => hxa z.1), hs1 _ _ hx]
  · rw [hC6.2, hC5.2, hC4.2, hC3.2, hC2.2, hg1]
