set_option maxRecDepth 100000
/-! BeeYard, 1: a hive -/
theorem C_x_frameOf {sz : Int} {im : Int → aIm} {ct : Int → Int → Int} {a n : Int} {c : Int → Int} {k : Int} {Q : aPost} (hS : HvS sz im a n) (hC : HvC sz im ct a n c) (h0 : 0 ≤ k) (h1 : k < 16 * n) (hQ : Q (.inl (some (vR (ct ((im a).2.2 1) (ordF n (k / 16)))))) (sz, im, ct)) : AMet md_X9_frameOf 1 0 0 [vR a, vI k] (sz, im, ct) Q := by
  refine AMet.go (L := [some (vR a), some (vI k)]) mok_X9_frameOf (Nat.le_of_ble_eq_true rfl) rfl ?_
  have hA := hC.at h0 h1
  have hn1 := hS.2.2.2.1
  have hn2 := hS.2.2.2.2
  refine aw_aload_n dX9_frameOf_0 rfl ?_
  refine g_X9_21_9 rfl dX9_frameOf_1 hS.1 ?_
  refine aw_aload_n dX9_frameOf_4 rfl ?_
  refine g_X9_24_9 rfl dX9_frameOf_5 hS.1 ?_
  refine aw_iload_n dX9_frameOf_8 rfl ?_
  refine aw_bipush dX9_frameOf_9 (by decide) ?_
  refine aw_idivr dX9_frameOf_11 (by omega) (by omega) ?_
  refine aw_iaload dX9_frameOf_12 hS.2.2.1 (by omega) (by omega) ?_
  refine aw_aaload dX9_frameOf_13 hS.2.1 (by decide) (by rw [hA.1]; omega) (by rw [hA.1]; omega) ?_
  refine aw_areturn dX9_frameOf_14 rfl (Or.inr ⟨_, rfl⟩) ?_
  rw [hA.1]
  exact hQ
theorem C_x_at {sz : Int} {im : Int → aIm} {ct : Int → Int → Int} {a n : Int} {c : Int → Int} {k : Int} {Q : aPost} (hS : HvS sz im a n) (hC : HvC sz im ct a n c) (h0 : 0 ≤ k) (h1 : k < 16 * n) (hQ : Q (.inl (some (vI (c (fld n k))))) (sz, im, ct)) : AMet md_X9_at 2 0 0 [vR a, vI k] (sz, im, ct) Q := by
  refine AMet.go (L := [some (vR a), some (vI k)]) mok_X9_at (Nat.le_of_ble_eq_true rfl) rfl ?_
  have hA := hC.at h0 h1
  have hn1 := hS.2.2.2.1
  have hn2 := hS.2.2.2.2
  refine aw_aload_n dX9_at_0 rfl ?_
  refine aw_iload_n dX9_at_1 rfl ?_
  refine c_X9_53 rfl dX9_at_2 hS.1 (Nat.le_of_ble_eq_true rfl) (by omega) (C_x_frameOf hS hC h0 h1 ?_)
  refine aK_i ?_
  refine aw_iload_n dX9_at_5 rfl ?_
  refine aw_bipush dX9_at_6 (by decide) ?_
  refine aw_iremr dX9_at_8 (by omega) (by omega) ?_
  refine aw_saload dX9_at_9 hA.2.2.2.1 (by omega) (by omega) ?_
  refine aw_ireturn dX9_at_10 rfl ?_
  rw [hA.2.2.2.2]
  exact hQ
theorem C_x_put {sz : Int} {im : Int → aIm} {ct : Int → Int → Int} {a n : Int} {c : Int → Int} {k v : Int} {Q : aPost} (hS : HvS sz im a n) (hC : HvC sz im ct a n c) (h0 : 0 ≤ k) (h1 : k < 16 * n) (hv : -32768 ≤ v ∧ v < 32768)
    (hQ : ∀ ct', HvC sz im ct' a n (upA c (fld n k) v) → (∀ x j, ¬ hvf im ct a n x → ct' x j = ct x j) → (∀ j, ct' ((im a).2.2 1) j = ct ((im a).2.2 1) j) → Q (.inl none) (sz, im, ct')) : AMet md_X9_put 2 0 0 [vR a, vI k, vI v] (sz, im, ct) Q := by
  refine AMet.go (L := [some (vR a), some (vI k), some (vI v)]) mok_X9_put (Nat.le_of_ble_eq_true rfl) rfl ?_
  have hA := hC.at h0 h1
  have hn1 := hS.2.2.2.1
  have hn2 := hS.2.2.2.2
  refine aw_aload_n dX9_put_0 rfl ?_
  refine aw_iload_n dX9_put_1 rfl ?_
  refine c_X9_53 rfl dX9_put_2 hS.1 (Nat.le_of_ble_eq_true rfl) (by omega) (C_x_frameOf hS hC h0 h1 ?_)
  refine aK_i ?_
  refine aw_iload_n dX9_put_5 rfl ?_
  refine aw_bipush dX9_put_6 (by decide) ?_
  refine aw_iremr dX9_put_8 (by omega) (by omega) ?_
  refine aw_iload_n dX9_put_9 rfl ?_
  refine aw_i2sr dX9_put_10 (by omega) ?_
  refine aw_sastore dX9_put_11 hA.2.2.2.1 (by omega) (by omega) ?_
  refine aw_ret dX9_put_12 rfl ?_
  have hp := HvC.put (v := v) hS hC hA.2.1 hA.2.2.1 (i := k % 16) (by omega) (by omega)
  rw [w16_id hv.1 hv.2]
  exact hQ _ hp.1 (fun x j hx => aup_n fun z => hx ⟨_, hA.2.1, hA.2.2.1, z.1⟩) hp.2
theorem C_x_fields {sz : Int} {im : Int → aIm} {ct : Int → Int → Int} {a n : Int} {Q : aPost} (hS : HvS sz im a n) (hQ : Q (.inl (some (vI (16 * n)))) (sz, im, ct)) : AMet md_X9_fields 1 0 0 [vR a] (sz, im, ct) Q := by
  refine AMet.go (L := [some (vR a)]) mok_X9_fields (Nat.le_of_ble_eq_true rfl) rfl ?_
  have hn1 := hS.2.2.2.1
  have hn2 := hS.2.2.2.2
  refine aw_bipush dX9_fields_0 (by decide) ?_
  refine aw_aload_n dX9_fields_2 rfl ?_
  refine g_X9_21_9 rfl dX9_fields_3 hS.1 ?_
  refine aw_alen dX9_fields_6 hS.2.1 ?_
  refine aw_imulr dX9_fields_7 (by omega) ?_
  refine aw_ireturn dX9_fields_8 rfl ?_
  exact hQ
theorem C_x_isHoney {G : aG} {v : Int} {Q : aPost} (hT : 0 < v ∧ v ≤ 100 → Q (.inl (some (vI 1))) G) (hF : ¬ (0 < v ∧ v ≤ 100) → Q (.inl (some (vI 0))) G) : AMet md_X9_isHoney 1 0 0 [vI v] G Q := by
  refine AMet.go (L := [some (vI v)]) mok_X9_isHoney (Nat.le_of_ble_eq_true rfl) rfl ?_
  refine aw_iload_n dX9_isHoney_0 rfl ?_
  refine aw_ifle (tgt := 14) dX9_isHoney_1 (by decide) (fun h1 => ?_) (fun h1 => ?_)
  · refine aw_iconst dX9_isHoney_14 (by decide) ?_
    refine aw_zreturn dX9_isHoney_15 rfl (Or.inl rfl) ?_
    exact hF (by omega)
  · refine aw_iload_n dX9_isHoney_4 rfl ?_
    refine aw_bipush dX9_isHoney_5 (by decide) ?_
    refine aw_icmpgt (tgt := 14) dX9_isHoney_7 (by decide) (fun h7 => ?_) (fun h7 => ?_)
    · refine aw_iconst dX9_isHoney_14 (by decide) ?_
      refine aw_zreturn dX9_isHoney_15 rfl (Or.inl rfl) ?_
      exact hF (by omega)
    · refine aw_iconst dX9_isHoney_10 (by decide) ?_
      refine aw_goto (tgt := 15) dX9_isHoney_11 (by decide) ?_
      refine aw_zreturn dX9_isHoney_15 rfl (Or.inr rfl) ?_
      exact hT (by omega)
theorem L_x_honey {sz : Int} {im : Int → aIm} {ct : Int → Int → Int} {a n : Int} {c : Int → Int} {Q : aPost} {d kc ks : Nat} (hd : 3 ≤ d) (hS : HvS sz im a n) (hC : HvC sz im ct a n c) (hr : rgF n c) (hQ : Q (.inl (some (vI (isum (fun i => sv 0 (c i)) (nF n))))) (sz, im, ct)) : ∀ (r j : Nat), (j : Int) + r = 16 * n →
    AW (mq Q) md_X9_honey d kc ks 4 [some (vR a), some (vI (isum (fun k => sv 0 (c (fld n k))) j)), some (vI j)] [] (sz, im, ct) := by
  intro r
  induction r with
  | zero =>
    intro j h1
    have hn1 := hS.2.2.2.1
    have hn2 := hS.2.2.2.2
    refine aw_iload_n dX9_honey_4 rfl ?_
    refine aw_aload_n dX9_honey_5 rfl ?_
    refine c_X9_57 rfl dX9_honey_6 hS.1 (Nat.le_of_ble_eq_true rfl) (by omega) (C_x_fields hS ?_)
    refine aK_i ?_
    refine aw_icmpge (tgt := 41) dX9_honey_9 (by decide) (fun h9 => ?_) (fun h9 => ?_)
    · refine aw_iload_n dX9_honey_41 rfl ?_
      refine aw_ireturn dX9_honey_42 rfl ?_
      have ej : nF n = j := by unfold nF; omega
      rw [← isum_fld _ hn1 hn2, ej] at hQ
      exact hQ
    · exfalso; omega
  | succ r ih =>
    intro j h1
    have hn1 := hS.2.2.2.1
    have hn2 := hS.2.2.2.2
    have hf := fld_in (n := n) (k := j) (by omega) (by omega)
    have hv := hr _ hf.1 hf.2
    have hb := isum_bd (g := fun k => sv 0 (c (fld n k))) (B := 100) (n := j) fun i i0 i1 => sv_bd (hr _ (fld_in i0 (by omega)).1 (fld_in i0 (by omega)).2).1
    have es : isum (fun k => sv 0 (c (fld n k))) (j + 1) = isum (fun k => sv 0 (c (fld n k))) j + sv 0 (c (fld n j)) := rfl
    have ih := ih (j + 1) (by omega)
    rw [es] at ih
    refine aw_iload_n dX9_honey_4 rfl ?_
    refine aw_aload_n dX9_honey_5 rfl ?_
    refine c_X9_57 rfl dX9_honey_6 hS.1 (Nat.le_of_ble_eq_true rfl) (by omega) (C_x_fields hS ?_)
    refine aK_i ?_
    refine aw_icmpge (tgt := 41) dX9_honey_9 (by decide) (fun h9 => ?_) (fun h9 => ?_)
    · exfalso; omega
    · refine aw_iload_n dX9_honey_12 rfl ?_
      refine aw_aload_n dX9_honey_13 rfl ?_
      refine aw_iload_n dX9_honey_14 rfl ?_
      refine c_X9_61 rfl dX9_honey_15 hS.1 (Nat.le_of_ble_eq_true rfl) (by omega) (C_x_at hS hC (by omega) (by omega) ?_)
      refine aK_i ?_
      refine c_X9_65 rfl dX9_honey_18  (Nat.le_of_ble_eq_true rfl) (by omega) (C_x_isHoney (fun hh => ?_) (fun hh => ?_))
      · refine aK_i ?_
        refine aw_ifeq (tgt := 32) dX9_honey_21 (by decide) (fun h => absurd h (by decide)) (fun _ => ?_)
        refine aw_aload_n dX9_honey_24 rfl ?_
        refine aw_iload_n dX9_honey_25 rfl ?_
        refine c_X9_61 rfl dX9_honey_26 hS.1 (Nat.le_of_ble_eq_true rfl) (by omega) (C_x_at hS hC (by omega) (by omega) ?_)
        refine aK_i ?_
        refine aw_goto (tgt := 33) dX9_honey_29 (by decide) ?_
        refine aw_iaddr dX9_honey_33 (by omega) ?_
        refine aw_istore1 dX9_honey_34 (by decide) rfl ?_
        refine aw_iinc2r dX9_honey_35 (by decide) (by decide) rfl (by omega) ?_
        refine aw_goto (tgt := 4) dX9_honey_38 (by decide) ?_
        first
          | (rw [show sv 0 (c (fld n j)) = c (fld n j) by unfold sv; (repeat' split) <;> omega] at ih; exact ih)
          | (rw [show sv 0 (c (fld n j)) = 1 by unfold sv; (repeat' split) <;> omega] at ih; exact ih)
          | (rw [show sv 0 (c (fld n j)) = 0 by unfold sv; (repeat' split) <;> omega] at ih; exact ih)
      · refine aK_i ?_
        refine aw_ifeq (tgt := 32) dX9_honey_21 (by decide) (fun _ => ?_) (fun h => absurd h (by decide))
        refine aw_iconst dX9_honey_32 (by decide) ?_
        refine aw_iaddr dX9_honey_33 (by omega) ?_
        refine aw_istore1 dX9_honey_34 (by decide) rfl ?_
        refine aw_iinc2r dX9_honey_35 (by decide) (by decide) rfl (by omega) ?_
        refine aw_goto (tgt := 4) dX9_honey_38 (by decide) ?_
        first
          | (rw [show sv 0 (c (fld n j)) = c (fld n j) by unfold sv; (repeat' split) <;> omega] at ih; exact ih)
          | (rw [show sv 0 (c (fld n j)) = 1 by unfold sv; (repeat' split) <;> omega] at ih; exact ih)
          | (rw [show sv 0 (c (fld n j)) = 0 by unfold sv; (repeat' split) <;> omega] at ih; exact ih)
theorem C_x_honey {sz : Int} {im : Int → aIm} {ct : Int → Int → Int} {a n : Int} {c : Int → Int} {Q : aPost} (hS : HvS sz im a n) (hC : HvC sz im ct a n c) (hr : rgF n c) (hQ : Q (.inl (some (vI (isum (fun i => sv 0 (c i)) (nF n))))) (sz, im, ct)) : AMet md_X9_honey 3 0 0 [vR a] (sz, im, ct) Q := by
  refine AMet.go (L := [some (vR a), none, none]) mok_X9_honey (Nat.le_of_ble_eq_true rfl) rfl ?_
  refine aw_iconst dX9_honey_0 (by decide) ?_
  refine aw_istore1 dX9_honey_1 (by decide) rfl ?_
  refine aw_iconst dX9_honey_2 (by decide) ?_
  refine aw_istore2 dX9_honey_3 (by decide) rfl ?_
  exact L_x_honey (by omega) hS hC hr hQ (16 * n).toNat 0 (by have := hS.2.2.2.1; omega)
theorem L_x_brood {sz : Int} {im : Int → aIm} {ct : Int → Int → Int} {a n : Int} {c : Int → Int} {Q : aPost} {d kc ks : Nat} (hd : 3 ≤ d) (hS : HvS sz im a n) (hC : HvC sz im ct a n c) (hr : rgF n c) (hQ : Q (.inl (some (vI (isum (fun i => sv 1 (c i)) (nF n))))) (sz, im, ct)) : ∀ (r j : Nat), (j : Int) + r = 16 * n →
    AW (mq Q) md_X9_brood d kc ks 4 [some (vR a), some (vI (isum (fun k => sv 1 (c (fld n k))) j)), some (vI j)] [] (sz, im, ct) := by
  intro r
  induction r with
  | zero =>
    intro j h1
    have hn1 := hS.2.2.2.1
    have hn2 := hS.2.2.2.2
    refine aw_iload_n dX9_brood_4 rfl ?_
    refine aw_aload_n dX9_brood_5 rfl ?_
    refine c_X9_57 rfl dX9_brood_6 hS.1 (Nat.le_of_ble_eq_true rfl) (by omega) (C_x_fields hS ?_)
    refine aK_i ?_
    refine aw_icmpge (tgt := 36) dX9_brood_9 (by decide) (fun h9 => ?_) (fun h9 => ?_)
    · refine aw_iload_n dX9_brood_36 rfl ?_
      refine aw_ireturn dX9_brood_37 rfl ?_
      have ej : nF n = j := by unfold nF; omega
      rw [← isum_fld _ hn1 hn2, ej] at hQ
      exact hQ
    · exfalso; omega
  | succ r ih =>
    intro j h1
    have hn1 := hS.2.2.2.1
    have hn2 := hS.2.2.2.2
    have hf := fld_in (n := n) (k := j) (by omega) (by omega)
    have hv := hr _ hf.1 hf.2
    have hb := isum_bd (g := fun k => sv 1 (c (fld n k))) (B := 100) (n := j) fun i i0 i1 => sv_bd (hr _ (fld_in i0 (by omega)).1 (fld_in i0 (by omega)).2).1
    have es : isum (fun k => sv 1 (c (fld n k))) (j + 1) = isum (fun k => sv 1 (c (fld n k))) j + sv 1 (c (fld n j)) := rfl
    have ih := ih (j + 1) (by omega)
    rw [es] at ih
    refine aw_iload_n dX9_brood_4 rfl ?_
    refine aw_aload_n dX9_brood_5 rfl ?_
    refine c_X9_57 rfl dX9_brood_6 hS.1 (Nat.le_of_ble_eq_true rfl) (by omega) (C_x_fields hS ?_)
    refine aK_i ?_
    refine aw_icmpge (tgt := 36) dX9_brood_9 (by decide) (fun h9 => ?_) (fun h9 => ?_)
    · exfalso; omega
    · refine aw_iload_n dX9_brood_12 rfl ?_
      refine aw_aload_n dX9_brood_13 rfl ?_
      refine aw_iload_n dX9_brood_14 rfl ?_
      refine c_X9_61 rfl dX9_brood_15 hS.1 (Nat.le_of_ble_eq_true rfl) (by omega) (C_x_at hS hC (by omega) (by omega) ?_)
      refine aK_i ?_
      refine aw_bipush dX9_brood_18 (by decide) ?_
      refine aw_icmplt (tgt := 27) dX9_brood_20 (by decide) (fun h20 => ?_) (fun h20 => ?_)
      · refine aw_iconst dX9_brood_27 (by decide) ?_
        refine aw_iaddr dX9_brood_28 (by omega) ?_
        refine aw_istore1 dX9_brood_29 (by decide) rfl ?_
        refine aw_iinc2r dX9_brood_30 (by decide) (by decide) rfl (by omega) ?_
        refine aw_goto (tgt := 4) dX9_brood_33 (by decide) ?_
        first
          | (rw [show sv 1 (c (fld n j)) = c (fld n j) by unfold sv; (repeat' split) <;> omega] at ih; exact ih)
          | (rw [show sv 1 (c (fld n j)) = 1 by unfold sv; (repeat' split) <;> omega] at ih; exact ih)
          | (rw [show sv 1 (c (fld n j)) = 0 by unfold sv; (repeat' split) <;> omega] at ih; exact ih)
      · refine aw_iconst dX9_brood_23 (by decide) ?_
        refine aw_goto (tgt := 28) dX9_brood_24 (by decide) ?_
        refine aw_iaddr dX9_brood_28 (by omega) ?_
        refine aw_istore1 dX9_brood_29 (by decide) rfl ?_
        refine aw_iinc2r dX9_brood_30 (by decide) (by decide) rfl (by omega) ?_
        refine aw_goto (tgt := 4) dX9_brood_33 (by decide) ?_
        first
          | (rw [show sv 1 (c (fld n j)) = c (fld n j) by unfold sv; (repeat' split) <;> omega] at ih; exact ih)
          | (rw [show sv 1 (c (fld n j)) = 1 by unfold sv; (repeat' split) <;> omega] at ih; exact ih)
          | (rw [show sv 1 (c (fld n j)) = 0 by unfold sv; (repeat' split) <;> omega] at ih; exact ih)
theorem C_x_brood {sz : Int} {im : Int → aIm} {ct : Int → Int → Int} {a n : Int} {c : Int → Int} {Q : aPost} (hS : HvS sz im a n) (hC : HvC sz im ct a n c) (hr : rgF n c) (hQ : Q (.inl (some (vI (isum (fun i => sv 1 (c i)) (nF n))))) (sz, im, ct)) : AMet md_X9_brood 3 0 0 [vR a] (sz, im, ct) Q := by
  refine AMet.go (L := [some (vR a), none, none]) mok_X9_brood (Nat.le_of_ble_eq_true rfl) rfl ?_
  refine aw_iconst dX9_brood_0 (by decide) ?_
  refine aw_istore1 dX9_brood_1 (by decide) rfl ?_
  refine aw_iconst dX9_brood_2 (by decide) ?_
  refine aw_istore2 dX9_brood_3 (by decide) rfl ?_
  exact L_x_brood (by omega) hS hC hr hQ (16 * n).toNat 0 (by have := hS.2.2.2.1; omega)
theorem L_x_empty {sz : Int} {im : Int → aIm} {ct : Int → Int → Int} {a n : Int} {c : Int → Int} {Q : aPost} {d kc ks : Nat} (hd : 3 ≤ d) (hS : HvS sz im a n) (hC : HvC sz im ct a n c) (hr : rgF n c) (hQ : Q (.inl (some (vI (isum (fun i => sv 2 (c i)) (nF n))))) (sz, im, ct)) : ∀ (r j : Nat), (j : Int) + r = 16 * n →
    AW (mq Q) md_X9_empty d kc ks 4 [some (vR a), some (vI (isum (fun k => sv 2 (c (fld n k))) j)), some (vI j)] [] (sz, im, ct) := by
  intro r
  induction r with
  | zero =>
    intro j h1
    have hn1 := hS.2.2.2.1
    have hn2 := hS.2.2.2.2
    refine aw_iload_n dX9_empty_4 rfl ?_
    refine aw_aload_n dX9_empty_5 rfl ?_
    refine c_X9_57 rfl dX9_empty_6 hS.1 (Nat.le_of_ble_eq_true rfl) (by omega) (C_x_fields hS ?_)
    refine aK_i ?_
    refine aw_icmpge (tgt := 34) dX9_empty_9 (by decide) (fun h9 => ?_) (fun h9 => ?_)
    · refine aw_iload_n dX9_empty_34 rfl ?_
      refine aw_ireturn dX9_empty_35 rfl ?_
      have ej : nF n = j := by unfold nF; omega
      rw [← isum_fld _ hn1 hn2, ej] at hQ
      exact hQ
    · exfalso; omega
  | succ r ih =>
    intro j h1
    have hn1 := hS.2.2.2.1
    have hn2 := hS.2.2.2.2
    have hf := fld_in (n := n) (k := j) (by omega) (by omega)
    have hv := hr _ hf.1 hf.2
    have hb := isum_bd (g := fun k => sv 2 (c (fld n k))) (B := 100) (n := j) fun i i0 i1 => sv_bd (hr _ (fld_in i0 (by omega)).1 (fld_in i0 (by omega)).2).1
    have es : isum (fun k => sv 2 (c (fld n k))) (j + 1) = isum (fun k => sv 2 (c (fld n k))) j + sv 2 (c (fld n j)) := rfl
    have ih := ih (j + 1) (by omega)
    rw [es] at ih
    refine aw_iload_n dX9_empty_4 rfl ?_
    refine aw_aload_n dX9_empty_5 rfl ?_
    refine c_X9_57 rfl dX9_empty_6 hS.1 (Nat.le_of_ble_eq_true rfl) (by omega) (C_x_fields hS ?_)
    refine aK_i ?_
    refine aw_icmpge (tgt := 34) dX9_empty_9 (by decide) (fun h9 => ?_) (fun h9 => ?_)
    · exfalso; omega
    · refine aw_iload_n dX9_empty_12 rfl ?_
      refine aw_aload_n dX9_empty_13 rfl ?_
      refine aw_iload_n dX9_empty_14 rfl ?_
      refine c_X9_61 rfl dX9_empty_15 hS.1 (Nat.le_of_ble_eq_true rfl) (by omega) (C_x_at hS hC (by omega) (by omega) ?_)
      refine aK_i ?_
      refine aw_ifne (tgt := 25) dX9_empty_18 (by decide) (fun h18 => ?_) (fun h18 => ?_)
      · refine aw_iconst dX9_empty_25 (by decide) ?_
        refine aw_iaddr dX9_empty_26 (by omega) ?_
        refine aw_istore1 dX9_empty_27 (by decide) rfl ?_
        refine aw_iinc2r dX9_empty_28 (by decide) (by decide) rfl (by omega) ?_
        refine aw_goto (tgt := 4) dX9_empty_31 (by decide) ?_
        first
          | (rw [show sv 2 (c (fld n j)) = c (fld n j) by unfold sv; (repeat' split) <;> omega] at ih; exact ih)
          | (rw [show sv 2 (c (fld n j)) = 1 by unfold sv; (repeat' split) <;> omega] at ih; exact ih)
          | (rw [show sv 2 (c (fld n j)) = 0 by unfold sv; (repeat' split) <;> omega] at ih; exact ih)
      · refine aw_iconst dX9_empty_21 (by decide) ?_
        refine aw_goto (tgt := 26) dX9_empty_22 (by decide) ?_
        refine aw_iaddr dX9_empty_26 (by omega) ?_
        refine aw_istore1 dX9_empty_27 (by decide) rfl ?_
        refine aw_iinc2r dX9_empty_28 (by decide) (by decide) rfl (by omega) ?_
        refine aw_goto (tgt := 4) dX9_empty_31 (by decide) ?_
        first
          | (rw [show sv 2 (c (fld n j)) = c (fld n j) by unfold sv; (repeat' split) <;> omega] at ih; exact ih)
          | (rw [show sv 2 (c (fld n j)) = 1 by unfold sv; (repeat' split) <;> omega] at ih; exact ih)
          | (rw [show sv 2 (c (fld n j)) = 0 by unfold sv; (repeat' split) <;> omega] at ih; exact ih)
theorem C_x_empty {sz : Int} {im : Int → aIm} {ct : Int → Int → Int} {a n : Int} {c : Int → Int} {Q : aPost} (hS : HvS sz im a n) (hC : HvC sz im ct a n c) (hr : rgF n c) (hQ : Q (.inl (some (vI (isum (fun i => sv 2 (c i)) (nF n))))) (sz, im, ct)) : AMet md_X9_empty 3 0 0 [vR a] (sz, im, ct) Q := by
  refine AMet.go (L := [some (vR a), none, none]) mok_X9_empty (Nat.le_of_ble_eq_true rfl) rfl ?_
  refine aw_iconst dX9_empty_0 (by decide) ?_
  refine aw_istore1 dX9_empty_1 (by decide) rfl ?_
  refine aw_iconst dX9_empty_2 (by decide) ?_
  refine aw_istore2 dX9_empty_3 (by decide) rfl ?_
  exact L_x_empty (by omega) hS hC hr hQ (16 * n).toNat 0 (by have := hS.2.2.2.1; omega)
theorem L_x_stores {sz : Int} {im : Int → aIm} {ct : Int → Int → Int} {a n t : Int} {Q : aPost} {d kc ks : Nat} (hd : 3 ≤ d) (hS : HvS sz im a n) (R : (Int → Int) × Int)
    (hQ : ∀ (ct' : Int → Int → Int) (c' : Int → Int), HvC sz im ct' a n c' → eqF n c' R.1 → (∀ x j, ¬ hvf im ct a n x → ct' x j = ct x j) → (∀ j, ct' ((im a).2.2 1) j = ct ((im a).2.2 1) j) → Q (.inl (some (vI R.2))) (sz, im, ct')) : ∀ (r : Nat) (k l : Int) (ct1 : Int → Int → Int) (c : Int → Int) (x4 : Option aV), k + 1 = r → k < 16 * n → 0 ≤ l → l < 2147483648 → HvC sz im ct1 a n c → rgF n c → eqF n (stor n r c l).1 R.1 → (stor n r c l).2 = R.2 → (∀ x j, ¬ hvf im ct a n x → ct1 x j = ct x j) → (∀ j, ct1 ((im a).2.2 1) j = ct ((im a).2.2 1) j) →
    AW (mq Q) md_X9_stores d kc ks 9 [some (vR a), some (vI t), some (vI l), some (vI k), x4] [] (sz, im, ct1) := by
  intro r
  induction r with
  | zero =>
    intro k l ct1 c x4 h1 h2 h3 h4 hC hr e1 e2 hs hg
    have hn1 := hS.2.2.2.1
    have hn2 := hS.2.2.2.2
    refine aw_iload_n dX9_stores_9 rfl ?_
    refine aw_iflt (tgt := 68) dX9_stores_10 (by decide) (fun h10 => ?_) (fun h10 => ?_)
    · refine aw_iload_n dX9_stores_68 rfl ?_
      refine aw_ireturn dX9_stores_69 rfl ?_
      simp only [stor] at e1 e2
      rw [e2]
      exact hQ ct1 c hC e1 hs hg
    · exfalso; omega
  | succ r ih =>
    intro k l ct1 c x4 h1 h2 h3 h4 hC hr e1 e2 hs hg
    have hn1 := hS.2.2.2.1
    have hn2 := hS.2.2.2.2
    have hk : k = r := by omega
    subst hk
    have hf := fld_in (n := n) (k := r) (by omega) (by omega)
    have hv := hr (fld n r) hf.1 hf.2
    refine aw_iload_n dX9_stores_9 rfl ?_
    refine aw_iflt (tgt := 68) dX9_stores_10 (by decide) (fun h10 => ?_) (fun h10 => ?_)
    · exfalso; omega
    · refine aw_iload_n dX9_stores_13 rfl ?_
      refine aw_ifle (tgt := 68) dX9_stores_14 (by decide) (fun h14 => ?_) (fun h14 => ?_)
      · refine aw_iload_n dX9_stores_68 rfl ?_
        refine aw_ireturn dX9_stores_69 rfl ?_
        simp only [stor, if_pos h14] at e1 e2
        rw [e2]
        exact hQ ct1 c hC e1 hs hg
      · refine aw_aload_n dX9_stores_17 rfl ?_
        refine aw_iload_n dX9_stores_18 rfl ?_
        refine c_X9_61 rfl dX9_stores_19 hS.1 (Nat.le_of_ble_eq_true rfl) (by omega) (C_x_at hS hC (by omega) (by omega) ?_)
        refine aK_i ?_
        refine aw_bipush dX9_stores_22 (by decide) ?_
        refine aw_icmple (tgt := 30) dX9_stores_24 (by decide) (fun h24 => ?_) (fun h24 => ?_)
        · have n14 : ¬ l ≤ 0 := by omega
          refine aw_iload_n dX9_stores_30 rfl ?_
          refine aw_bipush dX9_stores_31 (by decide) ?_
          refine aw_aload_n dX9_stores_33 rfl ?_
          refine aw_iload_n dX9_stores_34 rfl ?_
          refine c_X9_61 rfl dX9_stores_35 hS.1 (Nat.le_of_ble_eq_true rfl) (by omega) (C_x_at hS hC (by omega) (by omega) ?_)
          refine aK_i ?_
          refine aw_isubr dX9_stores_38 (by omega) ?_
          refine aw_mmin dX9_stores_39 q815 q816 q137 q817 (Nat.le_of_ble_eq_true rfl) (by omega) ?_
          refine aw_istore4 dX9_stores_42 (by decide) rfl ?_
          refine aw_aload_n dX9_stores_44 rfl ?_
          refine aw_iload_n dX9_stores_45 rfl ?_
          refine aw_aload_n dX9_stores_46 rfl ?_
          refine aw_iload_n dX9_stores_47 rfl ?_
          refine c_X9_61 rfl dX9_stores_48 hS.1 (Nat.le_of_ble_eq_true rfl) (by omega) (C_x_at hS hC (by omega) (by omega) ?_)
          refine aK_i ?_
          refine aw_iload dX9_stores_51 rfl ?_
          refine aw_iaddr dX9_stores_53 (by omega) ?_
          refine c_X9_75 rfl dX9_stores_54 hS.1 (Nat.le_of_ble_eq_true rfl) (by omega) (C_x_put hS hC (by omega) (by omega) (by omega) (fun ct2 hC2 hf2 hg2 => ?_))
          refine aK_v ?_
          refine aw_iload_n dX9_stores_57 rfl ?_
          refine aw_iload dX9_stores_58 rfl ?_
          refine aw_isubr dX9_stores_60 (by omega) ?_
          refine aw_istore2 dX9_stores_61 (by decide) rfl ?_
          refine aw_iinc3r dX9_stores_62 (by decide) (by decide) rfl (by omega) ?_
          refine aw_goto (tgt := 9) dX9_stores_65 (by decide) ?_
          first
            | exact ih _ _ _ _ _ (by omega) (by omega) (by omega) (by omega) hC hr e1 e2 hs hg
            | (by_cases h100 : c (fld n r) = 100
               · have z1 : min l (100 - c (fld n r)) = 0 := by omega
                 simp only [stor, if_neg n14, if_pos (show 100 ≤ c (fld n r) by omega)] at e1 e2
                 have z2 : eqF n c (upA c (fld n r) (c (fld n r) + min l (100 - c (fld n r)))) := fun i i0 i1 => by
                   rw [z1]; unfold upA; split <;> simp_all
                 have z3 := stor_ext (n := n) (k := r) (l := l) (by omega) z2
                 refine ih _ _ _ _ _ (by omega) (by omega) (by omega) (by omega) hC2 (fun i i0 i1 => by rw [← z2 i i0 i1]; exact hr i i0 i1) (fun i i0 i1 => ?_) ?_ (fun x j hx => ?_) (fun j => ?_)
                 · rw [z1]; simp only [Int.sub_zero]
                   rw [z1] at z3; rw [← z3.1 i i0 i1]; exact e1 i i0 i1
                 · rw [z1]; simp only [Int.sub_zero]
                   rw [z1] at z3; rw [← z3.2]; exact e2
                 · rw [hf2 x j (fun z => hx ((hvf_put hg x).mp z))]; exact hs x j hx
                 · rw [hg2]; exact hg j
               · simp only [stor, if_neg n14, if_neg (show ¬ 100 ≤ c (fld n r) by omega)] at e1 e2
                 refine ih _ _ _ _ _ (by omega) (by omega) (by omega) (by omega) hC2 (upA_rgF hr (by omega)) e1 e2 (fun x j hx => ?_) (fun j => ?_)
                 · rw [hf2 x j (fun z => hx ((hvf_put hg x).mp z))]; exact hs x j hx
                 · rw [hg2]; exact hg j)
        · have n14 : ¬ l ≤ 0 := by omega
          simp only [stor, if_neg n14, if_pos (show 100 ≤ c (fld n r) by omega)] at e1 e2
          refine aw_goto (tgt := 62) dX9_stores_27 (by decide) ?_
          refine aw_iinc3r dX9_stores_62 (by decide) (by decide) rfl (by omega) ?_
          refine aw_goto (tgt := 9) dX9_stores_65 (by decide) ?_
          first
            | exact ih _ _ _ _ _ (by omega) (by omega) (by omega) (by omega) hC hr e1 e2 hs hg
            | (by_cases h100 : c (fld n r) = 100
               · have z1 : min l (100 - c (fld n r)) = 0 := by omega
                 simp only [stor, if_neg n14, if_pos (show 100 ≤ c (fld n r) by omega)] at e1 e2
                 have z2 : eqF n c (upA c (fld n r) (c (fld n r) + min l (100 - c (fld n r)))) := fun i i0 i1 => by
                   rw [z1]; unfold upA; split <;> simp_all
                 have z3 := stor_ext (n := n) (k := r) (l := l) (by omega) z2
                 refine ih _ _ _ _ _ (by omega) (by omega) (by omega) (by omega) hC2 (fun i i0 i1 => by rw [← z2 i i0 i1]; exact hr i i0 i1) (fun i i0 i1 => ?_) ?_ (fun x j hx => ?_) (fun j => ?_)
                 · rw [z1]; simp only [Int.sub_zero]
                   rw [z1] at z3; rw [← z3.1 i i0 i1]; exact e1 i i0 i1
                 · rw [z1]; simp only [Int.sub_zero]
                   rw [z1] at z3; rw [← z3.2]; exact e2
                 · rw [hf2 x j (fun z => hx ((hvf_put hg x).mp z))]; exact hs x j hx
                 · rw [hg2]; exact hg j
               · simp only [stor, if_neg n14, if_neg (show ¬ 100 ≤ c (fld n r) by omega)] at e1 e2
                 refine ih _ _ _ _ _ (by omega) (by omega) (by omega) (by omega) hC2 (upA_rgF hr (by omega)) e1 e2 (fun x j hx => ?_) (fun j => ?_)
                 · rw [hf2 x j (fun z => hx ((hvf_put hg x).mp z))]; exact hs x j hx
                 · rw [hg2]; exact hg j)
theorem C_x_stores {sz : Int} {im : Int → aIm} {ct : Int → Int → Int} {a n : Int} {c : Int → Int} {t : Int} {Q : aPost} (hS : HvS sz im a n) (hC : HvC sz im ct a n c) (hr : rgF n c) (ht : 0 ≤ t ∧ t < 2147483648)
    (hQ : ∀ (ct' : Int → Int → Int) (c' : Int → Int), HvC sz im ct' a n c' → eqF n c' (stor n (nF n) c t).1 → (∀ x j, ¬ hvf im ct a n x → ct' x j = ct x j) → (∀ j, ct' ((im a).2.2 1) j = ct ((im a).2.2 1) j) → Q (.inl (some (vI (stor n (nF n) c t).2))) (sz, im, ct')) : AMet md_X9_stores 3 0 0 [vR a, vI t] (sz, im, ct) Q := by
  refine AMet.go (L := [some (vR a), some (vI t), none, none, none]) mok_X9_stores (Nat.le_of_ble_eq_true rfl) rfl ?_
  have hn1 := hS.2.2.2.1
  have hn2 := hS.2.2.2.2
  refine aw_iload_n dX9_stores_0 rfl ?_
  refine aw_istore2 dX9_stores_1 (by decide) rfl ?_
  refine aw_aload_n dX9_stores_2 rfl ?_
  refine c_X9_57 rfl dX9_stores_3 hS.1 (Nat.le_of_ble_eq_true rfl) (by omega) (C_x_fields hS ?_)
  refine aK_i ?_
  refine aw_iconst dX9_stores_6 (by decide) ?_
  refine aw_isubr dX9_stores_7 (by omega) ?_
  refine aw_istore3 dX9_stores_8 (by decide) rfl ?_
  exact L_x_stores (ct := ct) (by omega) hS (stor n (nF n) c t) hQ (nF n) _ _ _ c _ (by unfold nF; omega) (by omega) (by omega) (by omega) hC hr (fun _ _ _ => rfl) rfl (fun _ _ _ => rfl) (fun _ => rfl)
