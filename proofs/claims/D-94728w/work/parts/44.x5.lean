set_option maxRecDepth 100000
/-! BeeYard, 5: a new hive; a copy of one -/
theorem aob_imm {sz N : Int} {im : Int → aIm} {b : Int} {c : Nat} (h : aob sz im b c) (h0 : 0 ≤ N) : aob (sz + 1 + N) (imm im sz N) b c := by
  have := h.2.1
  refine ⟨h.1, by omega, ?_⟩
  unfold imm
  rw [if_neg (by omega), if_neg (by omega)]
  exact h.2.2
theorem imf_s {im : Int → aIm} {a i v j : Int} : (imf im a i v a).2.2 j = if j = i then v else (im a).2.2 j := by simp [imf]
theorem imf_n {im : Int → aIm} {a i v b : Int} (h : b ≠ a) : imf im a i v b = im b := by simp [imf, h]
theorem imf_k {im : Int → aIm} {a i v b : Int} : (imf im a i v b).1 = (im b).1 ∧ (imf im a i v b).2.1 = (im b).2.1 := by
  unfold imf
  split
  · rename_i e; subst e; exact ⟨rfl, rfl⟩
  · exact ⟨rfl, rfl⟩
theorem imm_n {im : Int → aIm} {n N x : Int} (h : x < n ∨ n + N < x) (h0 : 0 ≤ N) : imm im n N x = im x := by
  unfold imm
  rw [if_neg (by omega), if_neg (by omega)]
theorem ctm_n {ct : Int → Int → Int} {n N x : Int} (h : x < n ∨ n + N < x) (h0 : 0 ≤ N) : ctm ct n N x = ct x := by
  unfold ctm
  rw [if_neg (by omega), if_neg (by omega)]
theorem imm_0 {im : Int → aIm} {n N : Int} : imm im n N n = (57, N.toNat, fun _ => 0) := by
  unfold imm
  rw [if_pos rfl]
theorem ctm_0 {ct : Int → Int → Int} {n N j : Int} : ctm ct n N n j = n + 1 + j := by
  unfold ctm
  rw [if_pos rfl]
theorem imm_i {im : Int → aIm} {n N x : Int} (h : n < x) (h1 : x ≤ n + N) : imm im n N x = (51, 16, fun _ => 0) := by
  unfold imm
  rw [if_neg (by omega), if_pos ⟨h, h1⟩]
theorem ctm_i {ct : Int → Int → Int} {n N x j : Int} (h : n < x) (h1 : x ≤ n + N) : ctm ct n N x j = 0 := by
  unfold ctm
  rw [if_neg (by omega), if_pos ⟨h, h1⟩]
theorem L_x_hini {sz : Int} {im : Int → aIm} {ct : Int → Int → Int} {a n nm o : Int} {Q : aPost} {d kc ks : Nat} (hO : aob sz im a 9) (ho : (im a).2.2 2 = o) (hA : aar sz im o 2 n) (hn1 : 1 ≤ n) (hn2 : n ≤ 12)
    (hQ : ∀ ct' : Int → Int → Int, (∀ j, 0 ≤ j → j < n → ct' o j = ordF n j) → (∀ x, x ≠ o → ct' x = ct x) → Q (.inl none) (sz, im, ct')) : ∀ (r : Nat) (k f : Int) (ct1 : Int → Int → Int), f + r = n + 1 → 0 ≤ f → 0 ≤ k → k ≤ n → (f = 0 → k = 0) → (1 ≤ f → k = min (2 * f - 1) n) → (∀ j, 0 ≤ j → j < k → ct1 o j = ordF n j) → (∀ x, x ≠ o → ct1 x = ct x) →
    AW (mq Q) md_X9_init d kc ks 45 [some (vR a), some (vL nm), none, some (vI n), some (vI ((n - 1) / 2)), some (vI k), some (vI f)] [] (sz, im, ct1) := by
  intro r
  induction r with
  | zero =>
    intro k f ct1 h1 h2 h3 h4 h5 h6 h7 h8
    refine aw_iload dX9_init_45 rfl ?_
    refine aw_iload_n dX9_init_47 rfl ?_
    refine aw_icmpge (tgt := 109) dX9_init_48 (by decide) (fun h48 => ?_) (fun h48 => ?_)
    · refine aw_ret dX9_init_109 rfl ?_
      exact hQ ct1 (fun j j0 j1 => h7 j j0 (by omega)) h8
    · exfalso; omega
  | succ r ih =>
    intro k f ct1 h1 h2 h3 h4 h5 h6 h7 h8
    have o1 : k = 2 * f - 1 → 1 ≤ f → ordF n k = (n - 1) / 2 + f := by intro e _; subst e; unfold ordF; rw [if_pos (by omega)]; omega
    have o2 : k = 2 * f → ordF n k = (n - 1) / 2 - f := by intro e; subst e; unfold ordF; rw [if_neg (by omega)]; omega
    have o3 : ∀ k', k' = 2 * f → ordF n k' = (n - 1) / 2 - f := by intro k' e; subst e; unfold ordF; rw [if_neg (by omega)]; omega
    refine aw_iload dX9_init_45 rfl ?_
    refine aw_iload_n dX9_init_47 rfl ?_
    refine aw_icmpge (tgt := 109) dX9_init_48 (by decide) (fun h48 => ?_) (fun h48 => ?_)
    · refine aw_ret dX9_init_109 rfl ?_
      exact hQ ct1 (fun j j0 j1 => h7 j j0 (by omega)) h8
    · refine aw_iload dX9_init_51 rfl ?_
      refine aw_ifle (tgt := 80) dX9_init_53 (by decide) (fun h53 => ?_) (fun h53 => ?_)
      · refine aw_iload dX9_init_80 rfl ?_
        refine aw_iload dX9_init_82 rfl ?_
        refine aw_isubr dX9_init_84 (by omega) ?_
        refine aw_iflt (tgt := 103) dX9_init_85 (by decide) (fun h85 => ?_) (fun h85 => ?_)
        · refine aw_iinc6r dX9_init_103 (by decide) (by decide) rfl (by omega) ?_
          refine aw_goto (tgt := 45) dX9_init_106 (by decide) ?_
          refine ih _ _ _ (by omega) (by omega) (by omega) (by omega) (fun _ => by omega) (fun _ => by omega) (fun j j0 j1 => ?_) (fun x hx => ?_)
          · first
              | (exfalso; omega)
              | exact h7 j j0 (by omega)
              | (by_cases e1 : j = k
                 · subst e1
                   first
                     | (rw [aup_n (by omega), aup_s, o1 (by omega) (by omega)])
                     | (rw [aup_s, o1 (by omega) (by omega)])
                     | (rw [aup_s, o2 (by omega)])
                 · by_cases e2 : j = k + 1
                   · subst e2
                     first
                       | (exfalso; omega)
                       | (rw [aup_s, o3 _ (by omega)])
                   · first
                       | (rw [aup_n (by omega), aup_n (by omega)]; exact h7 j j0 (by omega))
                       | (rw [aup_n (by omega)]; exact h7 j j0 (by omega)))
          · first
              | exact h8 x hx
              | (rw [aup_rn hx, aup_rn hx]; exact h8 x hx)
              | (rw [aup_rn hx]; exact h8 x hx)
        · refine aw_aload_n dX9_init_88 rfl ?_
          refine g_X9_24_9 rfl dX9_init_89 hO ?_
          rw [ho]
          refine aw_iload dX9_init_92 rfl ?_
          refine aw_iload dX9_init_94 rfl ?_
          refine aw_iload dX9_init_96 rfl ?_
          refine aw_isubr dX9_init_98 (by omega) ?_
          refine aw_iastore dX9_init_99 hA (by omega) (by omega) ?_
          refine aw_iinc5r dX9_init_100 (by decide) (by decide) rfl (by omega) ?_
          refine aw_iinc6r dX9_init_103 (by decide) (by decide) rfl (by omega) ?_
          refine aw_goto (tgt := 45) dX9_init_106 (by decide) ?_
          refine ih _ _ _ (by omega) (by omega) (by omega) (by omega) (fun _ => by omega) (fun _ => by omega) (fun j j0 j1 => ?_) (fun x hx => ?_)
          · first
              | (exfalso; omega)
              | exact h7 j j0 (by omega)
              | (by_cases e1 : j = k
                 · subst e1
                   first
                     | (rw [aup_n (by omega), aup_s, o1 (by omega) (by omega)])
                     | (rw [aup_s, o1 (by omega) (by omega)])
                     | (rw [aup_s, o2 (by omega)])
                 · by_cases e2 : j = k + 1
                   · subst e2
                     first
                       | (exfalso; omega)
                       | (rw [aup_s, o3 _ (by omega)])
                   · first
                       | (rw [aup_n (by omega), aup_n (by omega)]; exact h7 j j0 (by omega))
                       | (rw [aup_n (by omega)]; exact h7 j j0 (by omega)))
          · first
              | exact h8 x hx
              | (rw [aup_rn hx, aup_rn hx]; exact h8 x hx)
              | (rw [aup_rn hx]; exact h8 x hx)
      · refine aw_iload dX9_init_56 rfl ?_
        refine aw_iload dX9_init_58 rfl ?_
        refine aw_iaddr dX9_init_60 (by omega) ?_
        refine aw_iload_n dX9_init_61 rfl ?_
        refine aw_icmpge (tgt := 80) dX9_init_62 (by decide) (fun h62 => ?_) (fun h62 => ?_)
        · refine aw_iload dX9_init_80 rfl ?_
          refine aw_iload dX9_init_82 rfl ?_
          refine aw_isubr dX9_init_84 (by omega) ?_
          refine aw_iflt (tgt := 103) dX9_init_85 (by decide) (fun h85 => ?_) (fun h85 => ?_)
          · refine aw_iinc6r dX9_init_103 (by decide) (by decide) rfl (by omega) ?_
            refine aw_goto (tgt := 45) dX9_init_106 (by decide) ?_
            refine ih _ _ _ (by omega) (by omega) (by omega) (by omega) (fun _ => by omega) (fun _ => by omega) (fun j j0 j1 => ?_) (fun x hx => ?_)
            · first
                | (exfalso; omega)
                | exact h7 j j0 (by omega)
                | (by_cases e1 : j = k
                   · subst e1
                     first
                       | (rw [aup_n (by omega), aup_s, o1 (by omega) (by omega)])
                       | (rw [aup_s, o1 (by omega) (by omega)])
                       | (rw [aup_s, o2 (by omega)])
                   · by_cases e2 : j = k + 1
                     · subst e2
                       first
                         | (exfalso; omega)
                         | (rw [aup_s, o3 _ (by omega)])
                     · first
                         | (rw [aup_n (by omega), aup_n (by omega)]; exact h7 j j0 (by omega))
                         | (rw [aup_n (by omega)]; exact h7 j j0 (by omega)))
            · first
                | exact h8 x hx
                | (rw [aup_rn hx, aup_rn hx]; exact h8 x hx)
                | (rw [aup_rn hx]; exact h8 x hx)
          · refine aw_aload_n dX9_init_88 rfl ?_
            refine g_X9_24_9 rfl dX9_init_89 hO ?_
            rw [ho]
            refine aw_iload dX9_init_92 rfl ?_
            refine aw_iload dX9_init_94 rfl ?_
            refine aw_iload dX9_init_96 rfl ?_
            refine aw_isubr dX9_init_98 (by omega) ?_
            refine aw_iastore dX9_init_99 hA (by omega) (by omega) ?_
            refine aw_iinc5r dX9_init_100 (by decide) (by decide) rfl (by omega) ?_
            refine aw_iinc6r dX9_init_103 (by decide) (by decide) rfl (by omega) ?_
            refine aw_goto (tgt := 45) dX9_init_106 (by decide) ?_
            refine ih _ _ _ (by omega) (by omega) (by omega) (by omega) (fun _ => by omega) (fun _ => by omega) (fun j j0 j1 => ?_) (fun x hx => ?_)
            · first
                | (exfalso; omega)
                | exact h7 j j0 (by omega)
                | (by_cases e1 : j = k
                   · subst e1
                     first
                       | (rw [aup_n (by omega), aup_s, o1 (by omega) (by omega)])
                       | (rw [aup_s, o1 (by omega) (by omega)])
                       | (rw [aup_s, o2 (by omega)])
                   · by_cases e2 : j = k + 1
                     · subst e2
                       first
                         | (exfalso; omega)
                         | (rw [aup_s, o3 _ (by omega)])
                     · first
                         | (rw [aup_n (by omega), aup_n (by omega)]; exact h7 j j0 (by omega))
                         | (rw [aup_n (by omega)]; exact h7 j j0 (by omega)))
            · first
                | exact h8 x hx
                | (rw [aup_rn hx, aup_rn hx]; exact h8 x hx)
                | (rw [aup_rn hx]; exact h8 x hx)
        · refine aw_aload_n dX9_init_65 rfl ?_
          refine g_X9_24_9 rfl dX9_init_66 hO ?_
          rw [ho]
          refine aw_iload dX9_init_69 rfl ?_
          refine aw_iload dX9_init_71 rfl ?_
          refine aw_iload dX9_init_73 rfl ?_
          refine aw_iaddr dX9_init_75 (by omega) ?_
          refine aw_iastore dX9_init_76 hA (by omega) (by omega) ?_
          refine aw_iinc5r dX9_init_77 (by decide) (by decide) rfl (by omega) ?_
          refine aw_iload dX9_init_80 rfl ?_
          refine aw_iload dX9_init_82 rfl ?_
          refine aw_isubr dX9_init_84 (by omega) ?_
          refine aw_iflt (tgt := 103) dX9_init_85 (by decide) (fun h85 => ?_) (fun h85 => ?_)
          · refine aw_iinc6r dX9_init_103 (by decide) (by decide) rfl (by omega) ?_
            refine aw_goto (tgt := 45) dX9_init_106 (by decide) ?_
            refine ih _ _ _ (by omega) (by omega) (by omega) (by omega) (fun _ => by omega) (fun _ => by omega) (fun j j0 j1 => ?_) (fun x hx => ?_)
            · first
                | (exfalso; omega)
                | exact h7 j j0 (by omega)
                | (by_cases e1 : j = k
                   · subst e1
                     first
                       | (rw [aup_n (by omega), aup_s, o1 (by omega) (by omega)])
                       | (rw [aup_s, o1 (by omega) (by omega)])
                       | (rw [aup_s, o2 (by omega)])
                   · by_cases e2 : j = k + 1
                     · subst e2
                       first
                         | (exfalso; omega)
                         | (rw [aup_s, o3 _ (by omega)])
                     · first
                         | (rw [aup_n (by omega), aup_n (by omega)]; exact h7 j j0 (by omega))
                         | (rw [aup_n (by omega)]; exact h7 j j0 (by omega)))
            · first
                | exact h8 x hx
                | (rw [aup_rn hx, aup_rn hx]; exact h8 x hx)
                | (rw [aup_rn hx]; exact h8 x hx)
          · refine aw_aload_n dX9_init_88 rfl ?_
            refine g_X9_24_9 rfl dX9_init_89 hO ?_
            rw [ho]
            refine aw_iload dX9_init_92 rfl ?_
            refine aw_iload dX9_init_94 rfl ?_
            refine aw_iload dX9_init_96 rfl ?_
            refine aw_isubr dX9_init_98 (by omega) ?_
            refine aw_iastore dX9_init_99 hA (by omega) (by omega) ?_
            refine aw_iinc5r dX9_init_100 (by decide) (by decide) rfl (by omega) ?_
            refine aw_iinc6r dX9_init_103 (by decide) (by decide) rfl (by omega) ?_
            refine aw_goto (tgt := 45) dX9_init_106 (by decide) ?_
            refine ih _ _ _ (by omega) (by omega) (by omega) (by omega) (fun _ => by omega) (fun _ => by omega) (fun j j0 j1 => ?_) (fun x hx => ?_)
            · first
                | (exfalso; omega)
                | exact h7 j j0 (by omega)
                | (by_cases e1 : j = k
                   · subst e1
                     first
                       | (rw [aup_n (by omega), aup_s, o1 (by omega) (by omega)])
                       | (rw [aup_s, o1 (by omega) (by omega)])
                       | (rw [aup_s, o2 (by omega)])
                   · by_cases e2 : j = k + 1
                     · subst e2
                       first
                         | (exfalso; omega)
                         | (rw [aup_s, o3 _ (by omega)])
                     · first
                         | (rw [aup_n (by omega), aup_n (by omega)]; exact h7 j j0 (by omega))
                         | (rw [aup_n (by omega)]; exact h7 j j0 (by omega)))
            · first
                | exact h8 x hx
                | (rw [aup_rn hx, aup_rn hx]; exact h8 x hx)
                | (rw [aup_rn hx]; exact h8 x hx)
theorem C_x_hinit {sz : Int} {im : Int → aIm} {ct : Int → Int → Int} {a n nm : Int} {Q : aPost} (hO : aob sz im a 9) (hn1 : 1 ≤ n) (hn2 : n ≤ 12) (hz : 0 ≤ sz)
    (hQ : ∀ (im' : Int → aIm) (ct' : Int → Int → Int), HvS (sz + 1 + n + 1) im' a n → HvC (sz + 1 + n + 1) im' ct' a n (fun _ => 0) → (im' a).2.2 0 = nm → ct' a 5 = -1 → (∀ j, j ≠ 5 → ct' a j = ct a j) → (∀ x, x < sz → x ≠ a → im' x = im x ∧ ct' x = ct x) → (im' a).2.2 1 = sz → (im' a).2.2 2 = sz + 1 + n → (∀ f, ct' sz f = sz + 1 + f) → Q (.inl none) (sz + 1 + n + 1, im', ct')) : AMet md_X9_init 2 14 216 [vR a, vL nm, vI n] (sz, im, ct) Q := by
  refine AMet.go (L := [some (vR a), some (vL nm), none, some (vI n), none, none, none]) mok_X9_init (Nat.le_of_ble_eq_true rfl) rfl ?_
  have ha0 := hO.1
  refine aw_aload_n dX9_init_0 rfl ?_
  refine aw_objInit dX9_init_1 q741 q151 q152 (by omega) (by omega) (Nat.le_of_ble_eq_true rfl) ?_
  refine aw_aload_n dX9_init_4 rfl ?_
  refine aw_iconst dX9_init_5 (by decide) ?_
  refine p_X9_9_9 rfl dX9_init_6 hO ?_
  refine aw_aload_n dX9_init_9 rfl ?_
  refine aw_lload_n dX9_init_10 rfl ?_
  refine pF_X9_15_9 rfl rfl dX9_init_11 hO ?_
  refine aw_aload_n dX9_init_14 rfl ?_
  refine aw_iload_n dX9_init_15 rfl ?_
  refine aw_bipush dX9_init_16 (by decide) ?_
  refine AW.widen (kc' := 1 + (1 + n.toNat)) (ks' := 12 + 17 * n.toNat) (by omega) (by omega) (aw_multi dX9_init_18 q742 q488 (by omega) (by omega) ?_)
  refine pF_X9_21_9 rfl rfl dX9_init_22 (aob_imm (aob_imf hO) (by omega)) ?_
  refine aw_aload_n dX9_init_25 rfl ?_
  refine aw_iload_n dX9_init_26 rfl ?_
  refine AW.widen (kc' := 0 + 1) (ks' := 0 + n.toNat) (by omega) (by omega) (aw_newarr_int dX9_init_27 q306 (by omega) (by omega) ?_)
  refine pF_X9_24_9 rfl rfl dX9_init_29 (aob_new (aob_imf (aob_imm (aob_imf hO) (by omega)))) ?_
  refine aw_iload_n dX9_init_32 rfl ?_
  refine aw_iconst dX9_init_33 (by decide) ?_
  refine aw_isubr dX9_init_34 (by omega) ?_
  refine aw_iconst dX9_init_35 (by decide) ?_
  refine aw_idivr dX9_init_36 (by omega) (by omega) ?_
  refine aw_istore4 dX9_init_37 (by decide) rfl ?_
  refine aw_iconst dX9_init_39 (by decide) ?_
  refine aw_istore5 dX9_init_40 (by decide) rfl ?_
  refine aw_iconst dX9_init_42 (by decide) ?_
  refine aw_istore6 dX9_init_43 (by decide) rfl ?_
  have hsa : a < sz := hO.2.1
  have f2 : ∀ x, x < sz → x ≠ a → imf (upA (imf (imm (imf im a 0 nm) sz n) a 1 sz) (sz + 1 + n) (50 + 2, n.toNat, fun _ => 0)) a 2 (sz + 1 + n) x = im x := fun x hx hxa => by
    rw [imf_n hxa, upA_n (by omega), imf_n hxa, imm_n (by omega) (by omega), imf_n hxa]
  have f3 : ∀ j, (imf (upA (imf (imm (imf im a 0 nm) sz n) a 1 sz) (sz + 1 + n) (50 + 2, n.toNat, fun _ => 0)) a 2 (sz + 1 + n) a).2.2 j = if j = 2 then sz + 1 + n else if j = 1 then sz else if j = 0 then nm else (im a).2.2 j := fun j => by
    rw [imf_s, upA_n (by omega), imf_s, imm_n (by omega) (by omega), imf_s]
  have f4 : aob (sz + 1 + n + 1) (imf (upA (imf (imm (imf im a 0 nm) sz n) a 1 sz) (sz + 1 + n) (50 + 2, n.toNat, fun _ => 0)) a 2 (sz + 1 + n)) a 9 := aob_imf (aob_new (aob_imf (aob_imm (aob_imf hO) (by omega))))
  have f5 : aar (sz + 1 + n + 1) (imf (upA (imf (imm (imf im a 0 nm) sz n) a 1 sz) (sz + 1 + n) (50 + 2, n.toNat, fun _ => 0)) a 2 (sz + 1 + n)) sz 7 n := by
    refine aar_imf ⟨by omega, by omega, ?_⟩
    rw [upA_n (by omega), imf_n (by omega), imm_0]
    exact ⟨rfl, by show (n.toNat : Int) = n; omega⟩
  have f6 : aar (sz + 1 + n + 1) (imf (upA (imf (imm (imf im a 0 nm) sz n) a 1 sz) (sz + 1 + n) (50 + 2, n.toNat, fun _ => 0)) a 2 (sz + 1 + n)) (sz + 1 + n) 2 n := by
    refine aar_imf ⟨by omega, by omega, ?_⟩
    rw [upA_s]
    exact ⟨rfl, by show (n.toNat : Int) = n; omega⟩
  have f7 : ∀ f, 0 ≤ f → f < n → aar (sz + 1 + n + 1) (imf (upA (imf (imm (imf im a 0 nm) sz n) a 1 sz) (sz + 1 + n) (50 + 2, n.toNat, fun _ => 0)) a 2 (sz + 1 + n)) (sz + 1 + f) 1 16 := fun f h0 h1 => by
    refine aar_imf ⟨by omega, by omega, ?_⟩
    rw [upA_n (by omega), imf_n (by omega), imm_i (by omega) (by omega)]
    exact ⟨rfl, rfl⟩
  refine L_x_hini (o := sz + 1 + n) f4 (by rw [f3]; rfl) f6 hn1 hn2 (fun ct' g1 g2 => ?_) (n + 1).toNat 0 0 _ (by omega) (by omega) (by omega) (by omega) (fun _ => rfl) (fun h => by omega) (fun j j0 j1 => by omega) (fun _ _ => rfl)
  have z1 : ∀ f, ct' sz f = sz + 1 + f := fun f => by rw [g2 sz (by omega), upA_n (by omega), ctm_0]
  have i1 := f3 1
  rw [if_neg (by decide), if_pos rfl] at i1
  have i2 := f3 2
  rw [if_pos rfl] at i2
  refine hQ _ _ ⟨f4, by rw [i1]; exact f5, by rw [i2]; exact f6, hn1, hn2⟩ ⟨fun j j0 j1 => by rw [i2]; exact g1 j j0 j1, fun f h0 h1 => by rw [i1, z1]; exact f7 f h0 h1, fun f g h0 h1 h2 h3 e => by rw [i1, z1, z1] at e; omega, fun f j h0 h1 h2 h3 => by rw [i1, z1, g2 _ (by omega), upA_n (by omega), ctm_i (by omega) (by omega)]⟩ ?_ ?_ (fun j hj => ?_) (fun x hx hxa => ⟨f2 x hx hxa, ?_⟩) i1 i2 z1
  · rw [f3]; rfl
  · rw [g2 a (by omega), upA_n (by omega), ctm_n (by omega) (by omega), aup_s]
  · rw [g2 a (by omega), upA_n (by omega), ctm_n (by omega) (by omega), aup_n (fun z => hj z.2)]
  · rw [g2 x (by omega), upA_n (by omega), ctm_n (by omega) (by omega), aup_rn hxa]
theorem HvS.mono {sz sz' : Int} {im im' : Int → aIm} {a n : Int} (h : HvS sz im a n) (hz : sz ≤ sz') (hi : ∀ x, x < sz → im' x = im x) : HvS sz' im' a n := by
  obtain ⟨s1, s2, s3, s4, s5⟩ := h
  have e := hi a s1.2.1
  refine ⟨⟨s1.1, by have := s1.2.1; omega, by rw [e]; exact s1.2.2⟩, ?_, ?_, s4, s5⟩
  · rw [e]
    exact ⟨s2.1, by have := s2.2.1; omega, by rw [hi _ s2.2.1]; exact s2.2.2⟩
  · rw [e]
    exact ⟨s3.1, by have := s3.2.1; omega, by rw [hi _ s3.2.1]; exact s3.2.2⟩
theorem HvC.mono {sz sz' : Int} {im im' : Int → aIm} {ct ct' : Int → Int → Int} {a n : Int} {c : Int → Int} (hS : HvS sz im a n) (h : HvC sz im ct a n c) (hz : sz ≤ sz') (hi : ∀ x, x < sz → im' x = im x) (hc : ∀ x, x < sz → ct' x = ct x) : HvC sz' im' ct' a n c := by
  obtain ⟨s1, s2, s3, s4, s5⟩ := hS
  obtain ⟨c1, c2, c3, c4⟩ := h
  have e := hi a s1.2.1
  have e1 := hc _ s2.2.1
  have e2 := hc _ s3.2.1
  refine ⟨fun j j0 j1 => ?_, fun f f0 f1 => ?_, fun f g f0 f1 g0 g1 q => ?_, fun f i f0 f1 i0 i1 => ?_⟩
  · rw [e, e2]; exact c1 j j0 j1
  · rw [e, e1]
    have k := c2 f f0 f1
    exact ⟨k.1, by have := k.2.1; omega, by rw [hi _ k.2.1]; exact k.2.2⟩
  · rw [e, e1] at q; exact c3 f g f0 f1 g0 g1 q
  · rw [e, e1, hc _ (c2 f f0 f1).2.1]; exact c4 f i f0 f1 i0 i1
theorem C_x_hcopy {sz : Int} {im : Int → aIm} {ct : Int → Int → Int} {b n : Int} {c : Int → Int} {Q : aPost} (hS : HvS sz im b n) (hC : HvC sz im ct b n c)
    (hQ : ∀ (im' : Int → aIm) (ct' : Int → Int → Int), HvS (sz + n + 3) im' sz n → HvC (sz + n + 3) im' ct' sz n c → (im' sz).2.2 0 = (im b).2.2 0 → ct' sz 3 = ct b 3 → ct' sz 4 = ct b 4 → ct' sz 5 = ct b 5 → ct' sz 6 = ct b 6 → ct' sz 7 = ct b 7 → (∀ x, x < sz → im' x = im x ∧ ct' x = ct x) → (im' sz).2.2 1 = sz + 1 → (im' sz).2.2 2 = sz + n + 2 → (∀ f, 0 ≤ f → f < n → ct' (sz + 1) f = sz + 2 + f) → Q (.inl (some (vR sz))) (sz + n + 3, im', ct')) : AMet md_X9_copy 4 15 227 [vR b] (sz, im, ct) Q := by
  refine AMet.go (L := [some (vR b), none]) mok_X9_copy (Nat.le_of_ble_eq_true rfl) rfl ?_
  have hn1 := hS.2.2.2.1
  have hn2 := hS.2.2.2.2
  have hz0 := hS.1.1
  have hz1 := hS.1.2.1
  refine aw_new (c9 := 9) (q := (RX9, TX9, 11)) (N9 := 11) dX9_copy_0 rfl q869 q737 q136 rfl ?_
  refine aw_dup dX9_copy_3 rfl ?_
  refine aw_aload_n dX9_copy_4 rfl ?_
  refine g_X9_15_9 rfl dX9_copy_5 (aob_new hS.1) ?_
  rw [upA_n (by omega)]
  refine aw_aload_n dX9_copy_8 rfl ?_
  refine g_X9_21_9 rfl dX9_copy_9 (aob_new hS.1) ?_
  rw [upA_n (by omega)]
  have hAf : aar (sz + 1) (upA im sz (9, 0, adf 9)) ((im b).2.2 1) 7 n := aar_new hS.2.1
  refine aw_alen dX9_copy_12 hAf ?_
  refine c_X9_46a (kc1 := 14) (ks1 := 216) (kc2 := 0) (ks2 := 0) (by decide) (by decide) rfl dX9_copy_13 (by omega) (Nat.le_of_ble_eq_true rfl) (by omega) (C_x_hinit (aob_at (by omega)) hn1 hn2 (by omega) (fun im1 ct1 hS1 hC1 z0 z5 zj zx z1 z2 zf => ?_))
  refine aK_v ?_
  have gx : ∀ x, x < sz → im1 x = im x ∧ ct1 x = ct x := fun x hx => by
    have := zx x (by omega) (by omega)
    rw [upA_n (by omega), upA_n (by omega)] at this
    exact this
  have hSb := hS.mono (sz' := sz + 1 + 1 + n + 1) (by omega) (fun x hx => (gx x hx).1)
  have hCb := hC.mono (sz' := sz + 1 + 1 + n + 1) hS (by omega) (fun x hx => (gx x hx).1) (fun x hx => (gx x hx).2)
  have hfb : ∀ f, 0 ≤ f → f < n → ct1 ((im1 b).2.2 1) f < sz := fun f f0 f1 => by
    rw [(gx b hz1).1, (gx _ hS.2.1.2.1).2]
    exact (hC.2.1 f f0 f1).2.1
  have hDD : hvD im1 ct1 sz n b n := by
    rintro x ⟨f, f0, f1, rfl⟩ ⟨g, g0, g1, e⟩
    rw [z1, zf] at e
    have := hfb g g0 g1
    omega
  refine aw_astore1 dX9_copy_16 (by decide) rfl ?_
  refine aw_aload_n dX9_copy_17 rfl ?_
  refine aw_aload_n dX9_copy_18 rfl ?_
  refine c_X9_49 rfl dX9_copy_19 hS1.1 (Nat.le_of_ble_eq_true rfl) (by omega) (C_x_hbe (by omega) hS1 hC1 hSb hCb hDD (fun ct2 hC2 y3 y4 y5 y6 y7 yj yx yf => ?_))
  refine aK_v ?_
  refine aw_aload_n dX9_copy_22 rfl ?_
  refine aw_areturn dX9_copy_23 rfl (Or.inl ⟨_, rfl⟩) ?_
  have E : sz + 1 + 1 + n + 1 = sz + n + 3 := by omega
  rw [E] at hS1 hC2 ⊢
  have hnf : ∀ x, x < sz → ¬ hvf im1 ct1 sz n x := by
    rintro x hx ⟨f, f0, f1, e⟩
    rw [z1, zf] at e
    omega
  refine hQ _ _ hS1 hC2 ?_ ?_ ?_ ?_ ?_ ?_ (fun x hx => ⟨(gx x hx).1, ?_⟩) (by rw [z1]) (by rw [z2]; omega) (fun f f0 f1 => ?_)
  · rw [z0]
  · rw [y3, (gx b hz1).2]
  · rw [y4, (gx b hz1).2]
  · rw [y5, (gx b hz1).2]
  · rw [y6, (gx b hz1).2]
  · rw [y7, (gx b hz1).2]
  · funext j
    rw [yx x j (by omega) (hnf x hx), (gx x hx).2]
  · have := yf f
    rw [z1] at this
    rw [this, zf]
    omega
