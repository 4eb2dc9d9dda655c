set_option maxRecDepth 100000
/-! the Reader: who is named so -/
theorem L_x_hnm {own : Int → Int} {y sz : Int} {im : Int → aIm} {ct : Int → Int → Int} {ya dd : Int} {s N : Int → Int} {x R : Int} {Q : aPost} {d kc ks : Nat} (HY : YR own y sz im ct ya s dd N) (hQ : Q (.inl (some (vI R))) (sz, im, ct)) : ∀ (r : Nat) (k : Int), k + r = s 0 → 0 ≤ k → fndF N 0 x r k = R → AW (mq Q) md_X5_hiveNamed d kc ks 2 [some (vR ya), some (vL x), none, some (vI k)] [] (sz, im, ct) := by
  have h4 := HY.2.2.2.2.1
  have e2 := HY.2.2.2.2.2.1.1
  have hA := HY.2.2.1
  intro r
  induction r with
  | zero =>
    intro k h1 h2 h3
    have h3 : -1 = R := h3
    refine aw_iload_n dX5_hiveNamed_2 rfl ?_
    refine aw_aload_n dX5_hiveNamed_3 rfl ?_
    refine g_X5_28_5 rfl dX5_hiveNamed_4 HY.1 ?_
    rw [e2]
    refine aw_icmpge (tgt := 32) dX5_hiveNamed_7 (by decide) (fun h7 => ?_) (fun h7 => ?_)
    · refine aw_iconst dX5_hiveNamed_32 (by decide) ?_
      refine aw_ireturn dX5_hiveNamed_33 rfl ?_
      rw [h3]
      exact hQ
    · exfalso; omega
  | succ r ih =>
    intro k h1 h2 h3
    have Y := HY.2.2.2.2.2.2.2 k h2 (by omega)
    simp only [fndF, Int.zero_add] at h3
    refine aw_iload_n dX5_hiveNamed_2 rfl ?_
    refine aw_aload_n dX5_hiveNamed_3 rfl ?_
    refine g_X5_28_5 rfl dX5_hiveNamed_4 HY.1 ?_
    rw [e2]
    refine aw_icmpge (tgt := 32) dX5_hiveNamed_7 (by decide) (fun h7 => ?_) (fun h7 => ?_)
    · exfalso; omega
    · refine aw_aload_n dX5_hiveNamed_10 rfl ?_
      refine g_X5_20_5 rfl dX5_hiveNamed_11 HY.1 ?_
      refine aw_iload_n dX5_hiveNamed_14 rfl ?_
      refine aw_aaload dX5_hiveNamed_15 hA (by decide) (by omega) (by omega) ?_
      refine g_X5_31_9 rfl dX5_hiveNamed_16 Y.1.1 ?_
      rw [Y.2.2.2.1]
      refine aw_lload_n dX5_hiveNamed_19 rfl ?_
      refine aw_lcmpne (tgt := 26) dX5_hiveNamed_20 dX5_hiveNamed_21 (by decide) (fun h21 => ?_) (fun h21 => ?_)
      · refine aw_iinc3r dX5_hiveNamed_26 (by decide) (by decide) rfl (by omega) ?_
        refine aw_goto (tgt := 2) dX5_hiveNamed_29 (by decide) ?_
        exact ih (k + 1) (by omega) (by omega) (by rw [if_neg h21] at h3; exact h3)
      · refine aw_iload_n dX5_hiveNamed_24 rfl ?_
        refine aw_ireturn dX5_hiveNamed_25 rfl ?_
        rw [if_pos h21] at h3
        rw [h3]
        exact hQ
theorem C_x_hiveNamed {own : Int → Int} {y sz : Int} {im : Int → aIm} {ct : Int → Int → Int} {ya dd : Int} {s N : Int → Int} {x : Int} {Q : aPost} (HY : YR own y sz im ct ya s dd N) (hQ : Q (.inl (some (vI (fnd N 0 (s 0) x)))) (sz, im, ct)) : AMet md_X5_hiveNamed 2 0 0 [vR ya, vL x] (sz, im, ct) Q := by
  refine AMet.go (L := [some (vR ya), some (vL x), none, none]) mok_X5_hiveNamed (Nat.le_of_ble_eq_true rfl) rfl ?_
  refine aw_iconst dX5_hiveNamed_0 (by decide) ?_
  refine aw_istore3 dX5_hiveNamed_1 (by decide) rfl ?_
  have h4 := HY.2.2.2.2.1
  exact L_x_hnm HY hQ (s 0).toNat 0 (by omega) (by decide) rfl
theorem L_x_queenNamed {own : Int → Int} {sz : Int} {im : Int → aIm} {ct : Int → Int → Int} {la : Int} {s N : Int → Int} {x R : Int} {Q : aPost} {d kc ks : Nat} (HL : LR own sz im ct la s N) (hQ : Q (.inl (some (vI R))) (sz, im, ct)) : ∀ (r : Nat) (k : Int), k + r = s 1 → 0 ≤ k → fndF N 12 x r k = R → AW (mq Q) md_X6_queenNamed d kc ks 2 [some (vR la), some (vL x), none, some (vI (k))] [] (sz, im, ct) := by
  have h5 := HL.2.2.2.2.1
  have e6 := HL.2.2.2.1.1
  have hA := HL.2.1.1
  intro r
  induction r with
  | zero =>
    intro k h1 h2 h3
    have h3 : -1 = R := h3
    refine aw_iload_n dX6_queenNamed_2 rfl ?_
    refine aw_aload_n dX6_queenNamed_3 rfl ?_
    refine g_X6_31_6 rfl dX6_queenNamed_4 HL.1 ?_
    rw [e6]
    refine aw_icmpge (tgt := 29) dX6_queenNamed_7 (by decide) (fun h7 => ?_) (fun h7 => ?_)
    · refine aw_iconst dX6_queenNamed_29 (by decide) ?_
      refine aw_ireturn dX6_queenNamed_30 rfl ?_
      subst h3
      exact hQ
    · exfalso; omega
  | succ r ih =>
    intro k h1 h2 h3
    have Y := (HL.2.2.2.2.2.1 k h2 (by omega)).2.2.2.2
    simp only [fndF] at h3
    refine aw_iload_n dX6_queenNamed_2 rfl ?_
    refine aw_aload_n dX6_queenNamed_3 rfl ?_
    refine g_X6_31_6 rfl dX6_queenNamed_4 HL.1 ?_
    rw [e6]
    refine aw_icmpge (tgt := 29) dX6_queenNamed_7 (by decide) (fun h7 => ?_) (fun h7 => ?_)
    · exfalso; omega
    · refine aw_aload_n dX6_queenNamed_10 rfl ?_
      refine g_X6_9_6 rfl dX6_queenNamed_11 HL.1 ?_
      refine aw_iload_n dX6_queenNamed_14 rfl ?_
      refine aw_laload dX6_queenNamed_15 hA (by omega) (by omega) ?_
      rw [Y]
      refine aw_lload_n dX6_queenNamed_16 rfl ?_
      refine aw_lcmpne (tgt := 23) dX6_queenNamed_17 dX6_queenNamed_18 (by decide) (fun h17 => ?_) (fun h17 => ?_)
      · refine aw_iinc3r dX6_queenNamed_23 (by decide) (by decide) rfl (by omega) ?_
        refine aw_goto (tgt := 2) dX6_queenNamed_26 (by decide) ?_
        exact ih (k + 1) (by omega) (by omega) (by rw [if_neg h17] at h3; exact h3)
      · refine aw_iload_n dX6_queenNamed_21 rfl ?_
        refine aw_ireturn dX6_queenNamed_22 rfl ?_
        rw [if_pos h17] at h3
        subst h3
        exact hQ
theorem C_x_queenNamed {own : Int → Int} {sz : Int} {im : Int → aIm} {ct : Int → Int → Int} {la : Int} {s N : Int → Int} {x : Int} {Q : aPost} (HL : LR own sz im ct la s N) (hQ : Q (.inl (some (vI (fnd N 12 (s 1) x)))) (sz, im, ct)) : AMet md_X6_queenNamed 2 0 0 [vR la, vL x] (sz, im, ct) Q := by
  refine AMet.go (L := [some (vR la), some (vL x), none, none]) mok_X6_queenNamed (Nat.le_of_ble_eq_true rfl) rfl ?_
  refine aw_iconst dX6_queenNamed_0 (by decide) ?_
  refine aw_istore3 dX6_queenNamed_1 (by decide) rfl ?_
  have h5 := HL.2.2.2.2.1
  exact L_x_queenNamed HL hQ (s 1).toNat 0 (by omega) (by decide) rfl
theorem L_x_droneNamed {own : Int → Int} {sz : Int} {im : Int → aIm} {ct : Int → Int → Int} {la : Int} {s N : Int → Int} {x R : Int} {Q : aPost} {d kc ks : Nat} (HL : LR own sz im ct la s N) (hQ : Q (.inl (some (vI (if R = -1 then -1 else 8 + R)))) (sz, im, ct)) : ∀ (r : Nat) (k : Int), k + r = s 2 → 0 ≤ k → fndF N 4 x r k = R → AW (mq Q) md_X6_droneNamed d kc ks 3 [some (vR la), some (vL x), none, some (vI (8 + k))] [] (sz, im, ct) := by
  have h5 := HL.2.2.2.2.1
  have e6 := HL.2.2.2.1.2
  have hA := HL.2.1.1
  intro r
  induction r with
  | zero =>
    intro k h1 h2 h3
    have h3 : -1 = R := h3
    refine aw_iload_n dX6_droneNamed_3 rfl ?_
    refine aw_bipush dX6_droneNamed_4 (by decide) ?_
    refine aw_aload_n dX6_droneNamed_6 rfl ?_
    refine g_X6_35_6 rfl dX6_droneNamed_7 HL.1 ?_
    rw [e6]
    refine aw_iaddr dX6_droneNamed_10 (by omega) ?_
    refine aw_icmpge (tgt := 33) dX6_droneNamed_11 (by decide) (fun h11 => ?_) (fun h11 => ?_)
    · refine aw_iconst dX6_droneNamed_33 (by decide) ?_
      refine aw_ireturn dX6_droneNamed_34 rfl ?_
      subst h3
      exact hQ
    · exfalso; omega
  | succ r ih =>
    intro k h1 h2 h3
    have Y := (HL.2.2.2.2.2.2 k h2 (by omega)).2.2.2
    simp only [fndF] at h3
    refine aw_iload_n dX6_droneNamed_3 rfl ?_
    refine aw_bipush dX6_droneNamed_4 (by decide) ?_
    refine aw_aload_n dX6_droneNamed_6 rfl ?_
    refine g_X6_35_6 rfl dX6_droneNamed_7 HL.1 ?_
    rw [e6]
    refine aw_iaddr dX6_droneNamed_10 (by omega) ?_
    refine aw_icmpge (tgt := 33) dX6_droneNamed_11 (by decide) (fun h11 => ?_) (fun h11 => ?_)
    · exfalso; omega
    · refine aw_aload_n dX6_droneNamed_14 rfl ?_
      refine g_X6_9_6 rfl dX6_droneNamed_15 HL.1 ?_
      refine aw_iload_n dX6_droneNamed_18 rfl ?_
      refine aw_laload dX6_droneNamed_19 hA (by omega) (by omega) ?_
      rw [Y]
      refine aw_lload_n dX6_droneNamed_20 rfl ?_
      refine aw_lcmpne (tgt := 27) dX6_droneNamed_21 dX6_droneNamed_22 (by decide) (fun h21 => ?_) (fun h21 => ?_)
      · refine aw_iinc3r dX6_droneNamed_27 (by decide) (by decide) rfl (by omega) ?_
        refine aw_goto (tgt := 3) dX6_droneNamed_30 (by decide) ?_
        have h9 := ih (k + 1) (by omega) (by omega) (by rw [if_neg h21] at h3; exact h3)
        rw [show 8 + (k + 1) = 8 + k + 1 by omega] at h9
        exact h9
      · refine aw_iload_n dX6_droneNamed_25 rfl ?_
        refine aw_ireturn dX6_droneNamed_26 rfl ?_
        rw [if_pos h21] at h3
        subst h3
        rw [if_neg (by omega)] at hQ
        exact hQ
theorem C_x_droneNamed {own : Int → Int} {sz : Int} {im : Int → aIm} {ct : Int → Int → Int} {la : Int} {s N : Int → Int} {x : Int} {Q : aPost} (HL : LR own sz im ct la s N) (hQ : Q (.inl (some (vI (if fnd N 4 (s 2) x = -1 then -1 else 8 + fnd N 4 (s 2) x)))) (sz, im, ct)) : AMet md_X6_droneNamed 2 0 0 [vR la, vL x] (sz, im, ct) Q := by
  refine AMet.go (L := [some (vR la), some (vL x), none, none]) mok_X6_droneNamed (Nat.le_of_ble_eq_true rfl) rfl ?_
  refine aw_bipush dX6_droneNamed_0 (by decide) ?_
  refine aw_istore3 dX6_droneNamed_2 (by decide) rfl ?_
  have h5 := HL.2.2.2.2.1
  exact L_x_droneNamed HL hQ (s 2).toNat 0 (by omega) (by decide) rfl
theorem C_x_fresh {sz : Int} {im : Int → aIm} {ct : Int → Int → Int} {a : Int} {tp : Int → Int} {n p : Int} {own : Int → Int} {y ya dd la : Int} {s s2 N : Int → Int} {Q : aPost} (HR : RDX sz im ct a tp n p) (HY : YR own y sz im ct ya s2 dd N) (h20 : s2 0 = s 0) (hl : ct ya 0 = la) (HL : LR own sz im ct la s N) (hF : ∀ (k pl : Int) (ct1 : Int → Int → Int), freshP tp n p s N = .inl (k, pl) → FB a ct ct1 k pl → Q (.inr (0, 7)) (sz, im, ct1)) (hQ : ∀ (x q : Int) (ct1 : Int → Int → Int), freshP tp n p s N = .inr (x, q) → RDX sz im ct1 a tp n q → FA a ct ct1 → Q (.inl (some (vL x))) (sz, im, ct1)) : AMet md_X8_fresh 9 0 0 [vR a, vR ya] (sz, im, ct) Q := by
  refine AMet.go (L := [some (vR a), some (vR ya), none, none]) mok_X8_fresh (Nat.le_of_ble_eq_true rfl) rfl ?_
  have hX := HR.1
  obtain ⟨⟨ha, hsz, h60⟩, ⟨hB, hB1, hB5, hT, hBad⟩, hn, htp⟩ := id hX
  have hne := hX.ne
  have hp := HR.2.1
  have e1 := HR.2.2.1
  have e2 := HR.2.2.2.1
  have e3 := HR.2.2.2.2.1
  have hF9 := tF_bd (tp := tp) hp.2
  have hE := tE_bd (tp := tp) hp.2
  have hK := tK_bd (tp := tp) (n := n) (p := p)
  have h4 := HY.2.2.2.2.1
  have h5 := HL.2.2.2.2.1
  have K35 : ∀ x : Int, nameP tp n p = .inr x → (fnd N 0 (s 0) x ≠ -1 ∨ fnd N 12 (s 1) x ≠ -1 ∨ fnd N 4 (s 2) x ≠ -1) → AW (mq Q) md_X8_fresh 9 0 0 35 [some (vR a), some (vR ya), some (vL x), none] [] (sz, im, ct) := fun x e9 hz => by
    refine aw_aload_n dX8_fresh_35 rfl ?_
    refine g_X8_3_8 rfl dX8_fresh_36 ha ?_
    rw [h60]
    refine g_X8_55_0 rfl dX8_fresh_39 (by assumption) ?_
    rw [hB5]
    refine aw_iconst dX8_fresh_42 (by decide) ?_
    refine aw_aload_n dX8_fresh_43 rfl ?_
    refine g_X8_29_8 rfl dX8_fresh_44 ha ?_
    rw [e1]
    refine c_X8_59 rfl dX8_fresh_47 (by assumption) (Nat.le_of_ble_eq_true rfl) (by omega) (C_x_badat hBad ?_)
    refine aK_i ?_
    exact aw_athrow (E := 0) dX8_fresh_50 hBad ⟨_, rfl, rfl⟩ (ax_out rfl (hF _ _ _ (by unfold freshP; rw [bnd_r e9, if_pos hz]) FB.of))
  refine aw_aload_n dX8_fresh_0 rfl ?_
  refine c_X8_139 rfl dX8_fresh_1 ha (Nat.le_of_ble_eq_true rfl) (by omega) (C_x_name HR (fun k2 pl ct2 e9 f2 => ?_) (fun x e9 => ?_))
  · exact aK_x (ax_out rfl (hF _ _ _ (by unfold freshP; exact bnd_l e9) f2))
  · have b0 := fnd_bd (N := N) (b := 0) (c := s 0) (x := x) (by omega)
    have b1 := fnd_bd (N := N) (b := 12) (c := s 1) (x := x) (by omega)
    have b2 := fnd_bd (N := N) (b := 4) (c := s 2) (x := x) (by omega)
    refine aK_i ?_
    refine aw_lstore2 dX8_fresh_4 (by decide) rfl ?_
    refine aw_aload_n dX8_fresh_5 rfl ?_
    refine aw_lload_n dX8_fresh_6 rfl ?_
    refine c_X8_143 rfl dX8_fresh_7 HY.1 (Nat.le_of_ble_eq_true rfl) (by omega) (C_x_hiveNamed HY ?_)
    rw [h20]
    refine aK_i ?_
    refine aw_ifge (tgt := 35) dX8_fresh_10 (by decide) (fun h10 => ?_) (fun h10 => ?_)
    · have hz : fnd N 0 (s 0) x ≠ -1 ∨ fnd N 12 (s 1) x ≠ -1 ∨ fnd N 4 (s 2) x ≠ -1 := by
        first
          | omega
          | (refine Or.inr (Or.inr fun z => ?_)
             rw [if_pos z] at h32
             omega)
      exact K35 x e9 hz
    · refine aw_aload_n dX8_fresh_13 rfl ?_
      refine g_X8_149_5 rfl dX8_fresh_14 HY.1 ?_
      rw [hl]
      refine aw_lload_n dX8_fresh_17 rfl ?_
      refine c_X8_153 rfl dX8_fresh_18 HL.1 (Nat.le_of_ble_eq_true rfl) (by omega) (C_x_queenNamed HL ?_)
      refine aK_i ?_
      refine aw_ifge (tgt := 35) dX8_fresh_21 (by decide) (fun h21 => ?_) (fun h21 => ?_)
      · have hz : fnd N 0 (s 0) x ≠ -1 ∨ fnd N 12 (s 1) x ≠ -1 ∨ fnd N 4 (s 2) x ≠ -1 := by
          first
            | omega
            | (refine Or.inr (Or.inr fun z => ?_)
               rw [if_pos z] at h32
               omega)
        exact K35 x e9 hz
      · refine aw_aload_n dX8_fresh_24 rfl ?_
        refine g_X8_149_5 rfl dX8_fresh_25 HY.1 ?_
        rw [hl]
        refine aw_lload_n dX8_fresh_28 rfl ?_
        refine c_X8_158 rfl dX8_fresh_29 HL.1 (Nat.le_of_ble_eq_true rfl) (by omega) (C_x_droneNamed HL ?_)
        refine aK_i ?_
        refine aw_iflt (tgt := 51) dX8_fresh_32 (by decide) (fun h32 => ?_) (fun h32 => ?_)
        · refine aw_aload_n dX8_fresh_51 rfl ?_
          have hz : ¬ (fnd N 0 (s 0) x ≠ -1 ∨ fnd N 12 (s 1) x ≠ -1 ∨ fnd N 4 (s 2) x ≠ -1) := by
            have z : fnd N 4 (s 2) x = -1 := by
              by_cases z : fnd N 4 (s 2) x = -1
              · exact z
              · rw [if_neg z] at h32
                omega
            omega
          refine c_X8_19 rfl dX8_fresh_52 ha (Nat.le_of_ble_eq_true rfl) (by omega) (C_x_next HR.1 HR.goes.1 HR.goes.2 (fun ct1 HR1 f1 => ?_))
          refine aK_v ?_
          refine aw_lload_n dX8_fresh_55 rfl ?_
          refine aw_lreturn dX8_fresh_56 rfl ?_
          exact hQ _ _ _ (by unfold freshP; rw [bnd_r e9, if_neg hz]) HR1 f1
        · have hz : fnd N 0 (s 0) x ≠ -1 ∨ fnd N 12 (s 1) x ≠ -1 ∨ fnd N 4 (s 2) x ≠ -1 := by
            first
              | omega
              | (refine Or.inr (Or.inr fun z => ?_)
                 rw [if_pos z] at h32
                 omega)
          exact K35 x e9 hz
theorem C_x_known {sz : Int} {im : Int → aIm} {ct : Int → Int → Int} {a : Int} {tp : Int → Int} {n p : Int} {k : Int} {Q : aPost} (HR : RDX sz im ct a tp n p) (hF : ∀ ct1 : Int → Int → Int, k < 0 → FB a ct ct1 3 (tF tp n p) → Q (.inr (0, 7)) (sz, im, ct1)) (hQ : 0 ≤ k → Q (.inl (some (vI k))) (sz, im, ct)) : AMet md_X8_known 2 0 0 [vR a, vI k] (sz, im, ct) Q := by
  refine AMet.go (L := [some (vR a), some (vI k)]) mok_X8_known (Nat.le_of_ble_eq_true rfl) rfl ?_
  have hX := HR.1
  obtain ⟨⟨ha, hsz, h60⟩, ⟨hB, hB1, hB5, hT, hBad⟩, hn, htp⟩ := id hX
  have hne := hX.ne
  have hp := HR.2.1
  have e1 := HR.2.2.1
  have e2 := HR.2.2.2.1
  have e3 := HR.2.2.2.2.1
  have hF9 := tF_bd (tp := tp) hp.2
  have hE := tE_bd (tp := tp) hp.2
  have hK := tK_bd (tp := tp) (n := n) (p := p)
  refine aw_iload_n dX8_known_0 rfl ?_
  refine aw_ifge (tgt := 20) dX8_known_1 (by decide) (fun h1 => ?_) (fun h1 => ?_)
  · refine aw_iload_n dX8_known_20 rfl ?_
    refine aw_ireturn dX8_known_21 rfl ?_
    exact hQ (by omega)
  · refine aw_aload_n dX8_known_4 rfl ?_
    refine g_X8_3_8 rfl dX8_known_5 ha ?_
    rw [h60]
    refine g_X8_55_0 rfl dX8_known_8 (by assumption) ?_
    rw [hB5]
    refine aw_iconst dX8_known_11 (by decide) ?_
    refine aw_aload_n dX8_known_12 rfl ?_
    refine g_X8_29_8 rfl dX8_known_13 ha ?_
    rw [e1]
    refine c_X8_59 rfl dX8_known_16 (by assumption) (Nat.le_of_ble_eq_true rfl) (by omega) (C_x_badat hBad ?_)
    refine aK_i ?_
    exact aw_athrow (E := 0) dX8_known_19 hBad ⟨_, rfl, rfl⟩ (ax_out rfl (hF _ (by omega) FB.of))
theorem C_x_rhive {sz : Int} {im : Int → aIm} {ct : Int → Int → Int} {a : Int} {tp : Int → Int} {n p : Int} {own : Int → Int} {y ya dd la : Int} {s2 N : Int → Int} {Q : aPost} (HR : RDX sz im ct a tp n p) (HY : YR own y sz im ct ya s2 dd N) (hF : ∀ (k pl : Int) (ct1 : Int → Int → Int), oldP tp n p N 0 (s2 0) = .inl (k, pl) → FB a ct ct1 k pl → Q (.inr (0, 7)) (sz, im, ct1)) (hQ : ∀ (v q : Int) (ct1 : Int → Int → Int), oldP tp n p N 0 (s2 0) = .inr (v, q) → RDX sz im ct1 a tp n q → FA a ct ct1 → Q (.inl (some (vI v))) (sz, im, ct1)) : AMet md_X8_hive 9 0 0 [vR a, vR ya] (sz, im, ct) Q := by
  refine AMet.go (L := [some (vR a), some (vR ya), none]) mok_X8_hive (Nat.le_of_ble_eq_true rfl) rfl ?_
  have hX := HR.1
  obtain ⟨⟨ha, hsz, h60⟩, ⟨hB, hB1, hB5, hT, hBad⟩, hn, htp⟩ := id hX
  have hne := hX.ne
  have hp := HR.2.1
  have e1 := HR.2.2.1
  have e2 := HR.2.2.2.1
  have e3 := HR.2.2.2.2.1
  have hF9 := tF_bd (tp := tp) hp.2
  have hE := tE_bd (tp := tp) hp.2
  have hK := tK_bd (tp := tp) (n := n) (p := p)
  have h4 := HY.2.2.2.2.1
  refine aw_aload_n dX8_hive_0 rfl ?_
  refine aw_aload_n dX8_hive_1 rfl ?_
  refine aw_aload_n dX8_hive_2 rfl ?_
  refine c_X8_139 rfl dX8_hive_3 ha (Nat.le_of_ble_eq_true rfl) (by omega) (C_x_name HR (fun k2 pl ct2 e9 f2 => ?_) (fun x e9 => ?_))
  · exact aK_x (ax_out rfl (hF _ _ _ (by unfold oldP; exact bnd_l e9) f2))
  · have bd := fnd_bd (N := N) (b := 0) (c := s2 0) (x := x) (by omega)
    refine aK_i ?_
    refine c_X8_143 rfl dX8_hive_6 HY.1 (Nat.le_of_ble_eq_true rfl) (by omega) (C_x_hiveNamed HY ?_)
    refine aK_i ?_
    refine c_X8_161 rfl dX8_hive_9 ha (Nat.le_of_ble_eq_true rfl) (by omega) (C_x_known HR (fun ct2 hk f2 => ?_) (fun hk => ?_))
    · exact aK_x (ax_out rfl (hF _ _ _ (by unfold oldP; rw [bnd_r e9, if_pos (by omega)]) f2))
    · refine aK_i ?_
      refine aw_istore2 dX8_hive_12 (by decide) rfl ?_
      refine aw_aload_n dX8_hive_13 rfl ?_
      refine c_X8_19 rfl dX8_hive_14 ha (Nat.le_of_ble_eq_true rfl) (by omega) (C_x_next HR.1 HR.goes.1 HR.goes.2 (fun ct1 HR1 f1 => ?_))
      refine aK_v ?_
      refine aw_iload_n dX8_hive_17 rfl ?_
      refine aw_ireturn dX8_hive_18 rfl ?_
      exact hQ _ _ _ (by unfold oldP; rw [bnd_r e9, if_neg (by omega)]) HR1 f1
theorem C_x_mother {sz : Int} {im : Int → aIm} {ct : Int → Int → Int} {a : Int} {tp : Int → Int} {n p : Int} {own : Int → Int} {y ya dd la : Int} {s s2 N : Int → Int} {Q : aPost} (HR : RDX sz im ct a tp n p) (HY : YR own y sz im ct ya s2 dd N) (h20 : s2 0 = s 0) (hl : ct ya 0 = la) (HL : LR own sz im ct la s N) (hya : ya ≠ a) (hown : own a = -3) (hF : ∀ (k pl : Int) (ct1 : Int → Int → Int), momP tp n p s N = .inl (k, pl) → FB a ct ct1 k pl → Q (.inr (0, 7)) (sz, im, ct1)) (hQ : ∀ (v q : Int) (ct1 : Int → Int → Int), momP tp n p s N = .inr (v, q) → RDX sz im ct1 a tp n q → FA a ct ct1 → Q (.inl (some (vI v))) (sz, im, ct1)) : AMet md_X8_mother 9 0 0 [vR a, vR ya] (sz, im, ct) Q := by
  refine AMet.go (L := [some (vR a), some (vR ya), none]) mok_X8_mother (Nat.le_of_ble_eq_true rfl) rfl ?_
  have hX := HR.1
  obtain ⟨⟨ha, hsz, h60⟩, ⟨hB, hB1, hB5, hT, hBad⟩, hn, htp⟩ := id hX
  have hne := hX.ne
  have hp := HR.2.1
  have e1 := HR.2.2.1
  have e2 := HR.2.2.2.1
  have e3 := HR.2.2.2.2.1
  have hF9 := tF_bd (tp := tp) hp.2
  have hE := tE_bd (tp := tp) hp.2
  have hK := tK_bd (tp := tp) (n := n) (p := p)
  have h5 := HL.2.2.2.2.1
  refine aw_aload_n dX8_mother_0 rfl ?_
  refine aw_ldcS (k9 := 4) dX8_mother_1 rfl rfl (by decide) ?_
  refine c_X8_72 rfl dX8_mother_3 ha (Nat.le_of_ble_eq_true rfl) (by omega) (C_x_isWord (k := 4) (w := 7) HR (by decide) rfl (fun hw4 => ?_) (fun hw4 => ?_))
  · refine aK_i ?_
    refine aw_ifne (tgt := 11) dX8_mother_6 (by decide) (fun _ => ?_) (fun h => absurd h (by decide))
    refine aw_aload_n dX8_mother_11 rfl ?_
    refine c_X8_19 rfl dX8_mother_12 ha (Nat.le_of_ble_eq_true rfl) (by omega) (C_x_next HR.1 HR.goes.1 HR.goes.2 (fun ct1 HR1 f1 => ?_))
    refine aK_v ?_
    refine aw_aload_n dX8_mother_15 rfl ?_
    refine aw_aload_n dX8_mother_16 rfl ?_
    refine g_X8_149_5 rfl dX8_mother_17 HY.1 ?_
    rw [f1.1 _ hya, hl]
    refine aw_aload_n dX8_mother_20 rfl ?_
    refine c_X8_139 rfl dX8_mother_21 ha (Nat.le_of_ble_eq_true rfl) (by omega) (C_x_name HR1 (fun k2 pl ct2 e9 f2 => ?_) (fun x e9 => ?_))
    · exact aK_x (ax_out rfl (hF _ _ _ (by unfold momP oldP; rw [if_pos (by omega)]; exact bnd_l e9) (f1.b f2)))
    · have bd := fnd_bd (N := N) (b := 12) (c := s 1) (x := x) (by omega)
      refine aK_i ?_
      refine c_X8_153 rfl dX8_mother_24 HL.1 (Nat.le_of_ble_eq_true rfl) (by omega) (C_x_queenNamed (HL.frame (ct' := ct1) (fun x j hx => by rw [f1.1 x (fun z => by rw [z] at hx; omega)])) ?_)
      refine aK_i ?_
      refine c_X8_161 rfl dX8_mother_27 ha (Nat.le_of_ble_eq_true rfl) (by omega) (C_x_known HR1 (fun ct2 hk f2 => ?_) (fun hk => ?_))
      · exact aK_x (ax_out rfl (hF _ _ _ (by unfold momP oldP; rw [if_pos (by omega)]; rw [bnd_r e9, if_pos (by omega)]) (f1.b f2)))
      · refine aK_i ?_
        refine aw_istore2 dX8_mother_30 (by decide) rfl ?_
        refine aw_aload_n dX8_mother_31 rfl ?_
        refine c_X8_19 rfl dX8_mother_32 ha (Nat.le_of_ble_eq_true rfl) (by omega) (C_x_next HR1.1 HR1.goes.1 HR1.goes.2 (fun ct2 HR2 f2 => ?_))
        refine aK_v ?_
        refine aw_iload_n dX8_mother_35 rfl ?_
        refine aw_ireturn dX8_mother_36 rfl ?_
        exact hQ _ _ _ (by unfold momP oldP; rw [if_pos (by omega), bnd_r e9, if_neg (by omega)]) HR2 (f1.trans f2)
  · refine aK_i ?_
    refine aw_ifne (tgt := 11) dX8_mother_6 (by decide) (fun h => absurd h (by decide)) (fun _ => ?_)
    refine aw_iconst dX8_mother_9 (by decide) ?_
    refine aw_ireturn dX8_mother_10 rfl ?_
    exact hQ _ _ _ (by unfold momP; rw [if_neg (by omega)]) HR FA.rf
