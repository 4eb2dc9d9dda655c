set_option maxRecDepth 100000
/-! seasons: loops, tests, steps, BeeYard -/
theorem L_x_loop {own0 : Int → Int} {sz : Int} {im : Int → aIm} {ct0 : Int → Int → Int} {y ya la l : Int} {s0 N : Int → Int} {o t : Int} {f : lvS → lvS} {da d kc ks : Nat} {Q : aPost} {R : lvS} (hd : da + 1 ≤ d) (HA : ∀ {own1 : Int → Int} {ct1 : Int → Int → Int} {q : lvS} {Q : aPost}, XL own0 own1 sz im ct0 ct1 y ya la l s0 N q → (∀ (own2 : Int → Int) (ct2 : Int → Int → Int), XL own0 own2 sz im ct0 ct2 y ya la l s0 N (f q) → Q (.inl none) (sz, im, ct2)) → AMet md_X11_all da 0 0 [vR o, vR l] (sz, im, ct1) Q) (ho : aob sz im o 10) (et : (im o).2.2 2 = t) (h99 : t ≤ 99) (K : ∀ (own2 : Int → Int) (ct2 : Int → Int → Int), XL own0 own2 sz im ct0 ct2 y ya la l s0 N R → Q (.inl none) (sz, im, ct2)) : ∀ (r : Nat) (k : Int) (own1 : Int → Int) (ct1 : Int → Int → Int) (q : lvS), k + r = t → 0 ≤ k → lopF f r q = R → XL own0 own1 sz im ct0 ct1 y ya la l s0 N q → AW (mq Q) md_X12_does d kc ks 2 [some (vR o), some (vR l), some (vI k)] [] (sz, im, ct1) := by
  intro r
  induction r with
  | zero =>
    intro k own1 ct1 q h1 h2 hR hX
    simp only [lopF] at hR
    subst hR
    refine aw_iload_n dX12_does_2 rfl ?_
    refine aw_aload_n dX12_does_3 rfl ?_
    refine g_X12_7_10 rfl dX12_does_4 ho ?_
    rw [et]
    refine aw_icmpge (tgt := 28) dX12_does_7 (by decide) (fun h7 => ?_) (fun h7 => ?_)
    · refine aw_ret dX12_does_28 rfl ?_
      exact K _ _ hX
    · exfalso; omega
  | succ r ih =>
    intro k own1 ct1 q h1 h2 hR hX
    have hV := hX.2.2.2.2.2.1
    have hov := hX.2.2.2.2.2.2.2.2.2.2.1
    simp only [lopF] at hR
    refine aw_iload_n dX12_does_2 rfl ?_
    refine aw_aload_n dX12_does_3 rfl ?_
    refine g_X12_7_10 rfl dX12_does_4 ho ?_
    rw [et]
    refine aw_icmpge (tgt := 28) dX12_does_7 (by decide) (fun h7 => ?_) (fun h7 => ?_)
    · exfalso; omega
    · refine aw_aload_n dX12_does_10 rfl ?_
      refine g_X12_13_13 rfl dX12_does_11 hV.1.1 ?_
      rw [hV.2.2.2.2.2.1]
      refine aw_ifne (tgt := 28) dX12_does_14 (by decide) (fun h14 => ?_) (fun h14 => ?_)
      · rw [if_pos (by omega)] at hR
        subst hR
        refine aw_ret dX12_does_28 rfl ?_
        exact K _ _ hX
      · rw [if_neg (by omega)] at hR
        refine aw_aload_n dX12_does_17 rfl ?_
        refine aw_aload_n dX12_does_18 rfl ?_
        refine c_all_12 rfl dX12_does_19 ho (Nat.le_of_ble_eq_true rfl) hd (HA hX (fun own2 ct2 hX2 => ?_))
        refine aK_v ?_
        refine aw_iinc2r dX12_does_22 (by decide) (by decide) rfl (by omega) ?_
        refine aw_goto (tgt := 2) dX12_does_25 (by decide) ?_
        exact ih (k + 1) own2 ct2 _ (by omega) (by omega) hR hX2
theorem C_x_ldoes {own0 : Int → Int} {sz : Int} {im : Int → aIm} {ct0 : Int → Int → Int} {y ya la l : Int} {s0 N : Int → Int} {o t : Int} {f : lvS → lvS} {da : Nat} {own1 : Int → Int} {ct1 : Int → Int → Int} {q : lvS} {Q : aPost} (HA : ∀ {own1 : Int → Int} {ct1 : Int → Int → Int} {q : lvS} {Q : aPost}, XL own0 own1 sz im ct0 ct1 y ya la l s0 N q → (∀ (own2 : Int → Int) (ct2 : Int → Int → Int), XL own0 own2 sz im ct0 ct2 y ya la l s0 N (f q) → Q (.inl none) (sz, im, ct2)) → AMet md_X11_all da 0 0 [vR o, vR l] (sz, im, ct1) Q) (ho : aob sz im o 10) (et : (im o).2.2 2 = t) (h99 : 1 ≤ t ∧ t ≤ 99) (hX : XL own0 own1 sz im ct0 ct1 y ya la l s0 N q) (K : ∀ (own2 : Int → Int) (ct2 : Int → Int → Int), XL own0 own2 sz im ct0 ct2 y ya la l s0 N (lopF f t.toNat q) → Q (.inl none) (sz, im, ct2)) : AMet md_X12_does (da + 1) 0 0 [vR o, vR l] (sz, im, ct1) Q := by
  refine AMet.go (L := [some (vR o), some (vR l), none]) mok_X12_does (Nat.le_of_ble_eq_true rfl) rfl ?_
  refine aw_iconst dX12_does_0 (by decide) ?_
  refine aw_istore2 dX12_does_1 (by decide) rfl ?_
  exact L_x_loop (Nat.le_refl _) HA ho et h99.2 K t.toNat 0 own1 ct1 q (by omega) (by omega) rfl hX
theorem C_x_wdoes {own0 : Int → Int} {sz : Int} {im : Int → aIm} {ct0 : Int → Int → Int} {y ya la l : Int} {s0 N : Int → Int} {o r : Int} {f : lvS → lvS} {da : Nat} {own1 : Int → Int} {ct1 : Int → Int → Int} {q : lvS} {Q : aPost} (h5 : 5 ≤ da) (HA : ∀ {own1 : Int → Int} {ct1 : Int → Int → Int} {q : lvS} {Q : aPost}, XL own0 own1 sz im ct0 ct1 y ya la l s0 N q → (∀ (own2 : Int → Int) (ct2 : Int → Int → Int), XL own0 own2 sz im ct0 ct2 y ya la l s0 N (f q) → Q (.inl none) (sz, im, ct2)) → AMet md_X11_all da 0 0 [vR o, vR l] (sz, im, ct1) Q) (hT : TST sz im o q.1 r) (hX : XL own0 own1 sz im ct0 ct1 y ya la l s0 N q) (K1 : hldF q.1 r → ∀ (own2 : Int → Int) (ct2 : Int → Int → Int), XL own0 own2 sz im ct0 ct2 y ya la l s0 N (f q) → Q (.inl none) (sz, im, ct2)) (K0 : ¬ hldF q.1 r → ∀ (own2 : Int → Int) (ct2 : Int → Int → Int), XL own0 own2 sz im ct0 ct2 y ya la l s0 N q → Q (.inl none) (sz, im, ct2)) : AMet md_X13_does (da + 1) 0 0 [vR o, vR l] (sz, im, ct1) Q := by
  have hV := hX.2.2.2.2.2.1
  have hY := hX.2.2.1
  have hP := hX.2.2.2.2.2.2.1
  have b0 := hP.1
  obtain ⟨ho, e3, hb, -⟩ := id hT
  have Yk := hY.2.2.2.2.2.2.2 (q.1 (r + 1)) hb.1 hb.2
  refine AMet.go (L := [some (vR o), some (vR l)]) mok_X13_does (Nat.le_of_ble_eq_true rfl) rfl ?_
  refine aw_aload_n dX13_does_0 rfl ?_
  refine aw_aload_n dX13_does_1 rfl ?_
  refine g_X13_40_13 rfl dX13_does_2 hV.1.1 ?_
  rw [hV.1.2]
  refine g_X13_46_5 rfl dX13_does_5 hY.1 ?_
  refine aw_aload_n dX13_does_8 rfl ?_
  refine g_X13_15_11 rfl dX13_does_9 ho ?_
  rw [e3]
  refine aw_aaload dX13_does_12 hY.2.2.1 (by decide) (by omega) (by omega) ?_
  refine c_X13_52 rfl dX13_does_13 ho (Nat.le_of_ble_eq_true rfl) (by omega) (C_x_is hT hP Yk (fun hh => ?_) (fun hh => ?_))
  · refine aK_i ?_
    refine aw_ifeq (tgt := 24) dX13_does_16 (by decide) (fun h => absurd h (by decide)) (fun _ => ?_)
    refine aw_aload_n dX13_does_19 rfl ?_
    refine aw_aload_n dX13_does_20 rfl ?_
    refine c_all_13 rfl dX13_does_21 ho (Nat.le_of_ble_eq_true rfl) (by omega) (HA hX (fun own2 ct2 hX2 => ?_))
    refine aK_v ?_
    refine aw_ret dX13_does_24 rfl ?_
    first
      | exact K1 hh _ _ hX2
      | exact K0 hh _ _ hX
  · refine aK_i ?_
    refine aw_ifeq (tgt := 24) dX13_does_16 (by decide) (fun _ => ?_) (fun h => absurd h (by decide))
    refine aw_ret dX13_does_24 rfl ?_
    first
      | exact K1 hh _ _ hX2
      | exact K0 hh _ _ hX
theorem C_x_go {own0 : Int → Int} {sz : Int} {im : Int → aIm} {ct0 : Int → Int → Int} {y ya la l : Int} {s0 N : Int → Int} : ∀ (n : Nat) {o i j : Int} {own1 : Int → Int} {ct1 : Int → Int → Int} {q : lvS} {Q : aPost}, STs own0 sz im ct0 s0 n o i j → XL own0 own1 sz im ct0 ct1 y ya la l s0 N q → (∀ (own2 : Int → Int) (ct2 : Int → Int → Int), XL own0 own2 sz im ct0 ct2 y ya la l s0 N (stepF s0 n i q) → Q (.inl none) (sz, im, ct2)) → AMet md_X10_go (10 + 4 * n) 0 0 [vR o, vR l] (sz, im, ct1) Q := by
  intro n
  induction n with
  | zero =>
    intro o i j own1 ct1 q Q hS
    exact False.elim hS
  | succ n ih =>
    intro o i j own1 ct1 q Q hS hX K
    obtain ⟨hy, ol, hL0, hk⟩ := hX.1
    have hV := hX.2.2.2.2.2.1
    have hLq := hX.2.2.2.2.2.2
    have rw9 : ∀ z, 860 ≤ z → q.1 z = s0 z := fun z hz => hk.1 z (Or.inr (Or.inr (Or.inr (Or.inr (Or.inr hz)))))
    have e00 := hk.1 0 (Or.inl rfl)
    obtain ⟨g1, g2, g3, g4⟩ := hS
    have hI : q.2.2.1 ≠ 100 → XL own0 own1 sz im ct0 (aup ct1 l 2 (q.2.2.1 + 1)) y ya la l s0 N (incQ q) := fun hd9 => hX.liv (fun x j hx => aup_rn_a hx) ⟨by rw [aup_n (by omega)]; exact hV.2.1, by rw [aup_s]; rfl, by rw [aup_n (by omega)]; exact hV.2.2.2.1, by rw [aup_n (by omega)]; exact hV.2.2.2.2.1, by rw [aup_n (by omega)]; exact hV.2.2.2.2.2.1, by rw [aup_n (by omega)]; exact hV.2.2.2.2.2.2⟩ rfl (hLq.inc hd9)
    have d100 := hLq.2.2.1
    have hst : stepF s0 (n + 1) i q = if q.2.2.1 = 100 then overQ q else if s0 (860 + 6 * i) = 18 then lopF (seqF (stepF s0 n) s0 60 (i + 1) (s0 (864 + 6 * i))) (s0 (861 + 6 * i)).toNat (incQ q) else if 1700 ≤ s0 (860 + 6 * i) then @ite _ (hldF q.1 (860 + 6 * i)) (Classical.propDecidable _) (seqF (stepF s0 n) s0 60 (i + 1) (s0 (864 + 6 * i)) (incQ q)) (incQ q) else actQ (incQ q) (860 + 6 * i) := by
      simp only [stepF]
    rcases g4 with ⟨b1, b2, b3, b4, b5, b6, b7, b8⟩ | ⟨c1, c2, c3, c4, c5, cap, p, c6⟩
    · have hnk : s0 (860 + 6 * i) ≠ 18 ∧ s0 (860 + 6 * i) < 1700 := by
        rcases b3 with b | b | b | b | b | b | b <;> omega
      have hrow := b3.row (s' := q.1) e00 (hk.1 1 (by omega)) (fun k k0 k1 => hk.2 k k0 k1) (fun z z0 z1 => rw9 z (by omega))
      have hAct : ACT sz im o (incQ q).1 (860 + 6 * i) := ⟨b1, hrow, by rw [b4]; show _ = if q.1 (860 + 6 * i) = 20 then 6 else q.1 (860 + 6 * i) - 11; rw [rw9 _ (by omega)], by rw [b5]; exact (by rw [show 860 + 6 * i + 1 = 861 + 6 * i by omega]; exact (rw9 _ (by omega)).symm), by rw [b6]; exact (by rw [show 860 + 6 * i + 2 = 862 + 6 * i by omega]; exact (rw9 _ (by omega)).symm), by rw [b7]; exact (by rw [show 860 + 6 * i + 3 = 863 + 6 * i by omega]; exact (rw9 _ (by omega)).symm), by rw [b8]; exact (by rw [show 860 + 6 * i + 5 = 865 + 6 * i by omega]; exact (rw9 _ (by omega)).symm)⟩
      refine AMet.go (L := [some (vR o), some (vR l)]) mok_X10_go (Nat.le_of_ble_eq_true rfl) rfl ?_
      refine aw_aload_n dX10_go_0 rfl ?_
      refine g_X10_9_13 rfl dX10_go_1 hV.1.1 ?_
      rw [hV.2.2.1]
      refine aw_bipush dX10_go_4 (by decide) ?_
      refine aw_icmpne (tgt := 20) dX10_go_6 (by decide) (fun h6 => ?_) (fun h6 => ?_)
      · rw [if_neg (by omega)] at hst
        have hI := hI (by omega)
        refine aw_aload_n dX10_go_20 rfl ?_
        refine aw_dup dX10_go_21 rfl ?_
        refine g_X10_9_13 rfl dX10_go_22 hV.1.1 ?_
        rw [hV.2.2.1]
        refine aw_iconst dX10_go_25 (by decide) ?_
        refine aw_iaddr dX10_go_26 (by omega) ?_
        refine p_X10_9_13 rfl dX10_go_27 hV.1.1 ?_
        refine aw_aload_n dX10_go_30 rfl ?_
        refine aw_aload_n dX10_go_31 rfl ?_
        refine c_does_12 rfl dX10_go_32 b1 (Nat.le_of_ble_eq_true rfl) (by omega) (C_x_does hI hAct (by show q.2.2.2.1 + 1 ≤ q.2.2.1 + 1; omega) (fun own2 ct2 hX2 => ?_))
        refine aK_v ?_
        rw [if_neg hnk.1, if_neg (by omega)] at hst
        rw [hst] at K
        refine aw_ret dX10_go_35 rfl ?_
        exact K own2 ct2 hX2
      · refine aw_aload_n dX10_go_9 rfl ?_
        refine aw_iconst dX10_go_10 (by decide) ?_
        refine p_X10_15_13 rfl dX10_go_11 hV.1.1 (Or.inr rfl) ?_
        refine aw_aload_n dX10_go_14 rfl ?_
        refine aw_iconst dX10_go_15 (by decide) ?_
        refine p_X10_19_13 rfl dX10_go_16 hV.1.1 (Or.inr rfl) ?_
        refine aw_ret dX10_go_19 rfl ?_
        rw [if_pos (by omega)] at hst
        rw [hst] at K
        exact K own1 _ (hX.liv (fun x j hx => by rw [aup_rn hx, aup_rn hx]) ⟨by rw [aup_n (by omega), aup_n (by omega)]; exact hV.2.1, by rw [aup_n (by omega), aup_n (by omega)]; exact hV.2.2.1, by rw [aup_n (by omega), aup_n (by omega)]; exact hV.2.2.2.1, by rw [aup_n (by omega), aup_n (by omega)]; exact hV.2.2.2.2.1, by rw [aup_n (by omega), aup_s]; rfl, by rw [aup_s]; rfl⟩ rfl hLq.over)
    · obtain ⟨d1, d2, d3, d4, d5, d6, d7⟩ := c6
      have hB : BLK own0 sz im ct0 s0 n o (i + 1) (j - 1) := by
        refine ⟨?_, g1, by omega, by omega, cap, p, d1, d2, d3, d4, d5, d6, d7⟩
        rcases c1 with ⟨e, -⟩ | ⟨e, -⟩
        · exact Or.inl e
        · exact Or.inr e
      rcases c1 with ⟨e1, e2, e3, e4⟩ | ⟨e1, e2, e3, e4, e5, e6⟩
      · refine AMet.go (L := [some (vR o), some (vR l)]) mok_X10_go (Nat.le_of_ble_eq_true rfl) rfl ?_
        refine aw_aload_n dX10_go_0 rfl ?_
        refine g_X10_9_13 rfl dX10_go_1 hV.1.1 ?_
        rw [hV.2.2.1]
        refine aw_bipush dX10_go_4 (by decide) ?_
        refine aw_icmpne (tgt := 20) dX10_go_6 (by decide) (fun h6 => ?_) (fun h6 => ?_)
        · rw [if_neg (by omega)] at hst
          have hI := hI (by omega)
          refine aw_aload_n dX10_go_20 rfl ?_
          refine aw_dup dX10_go_21 rfl ?_
          refine g_X10_9_13 rfl dX10_go_22 hV.1.1 ?_
          rw [hV.2.2.1]
          refine aw_iconst dX10_go_25 (by decide) ?_
          refine aw_iaddr dX10_go_26 (by omega) ?_
          refine p_X10_9_13 rfl dX10_go_27 hV.1.1 ?_
          refine aw_aload_n dX10_go_30 rfl ?_
          refine aw_aload_n dX10_go_31 rfl ?_
          refine c_does_10 rfl dX10_go_32 e1 (Nat.le_of_ble_eq_true rfl) (by omega) (C_x_ldoes (da := 11 + 4 * n) (f := seqF (stepF s0 n) s0 60 (i + 1) (j - 1)) (fun hX3 K3 => C_x_all ih hB hX3 K3) e1 e3 e4 hI (fun own2 ct2 hX2 => ?_))
          refine aK_v ?_
          rw [if_pos e2, c5] at hst
          rw [hst] at K
          refine aw_ret dX10_go_35 rfl ?_
          exact K own2 ct2 hX2
        · refine aw_aload_n dX10_go_9 rfl ?_
          refine aw_iconst dX10_go_10 (by decide) ?_
          refine p_X10_15_13 rfl dX10_go_11 hV.1.1 (Or.inr rfl) ?_
          refine aw_aload_n dX10_go_14 rfl ?_
          refine aw_iconst dX10_go_15 (by decide) ?_
          refine p_X10_19_13 rfl dX10_go_16 hV.1.1 (Or.inr rfl) ?_
          refine aw_ret dX10_go_19 rfl ?_
          rw [if_pos (by omega)] at hst
          rw [hst] at K
          exact K own1 _ (hX.liv (fun x j hx => by rw [aup_rn hx, aup_rn hx]) ⟨by rw [aup_n (by omega), aup_n (by omega)]; exact hV.2.1, by rw [aup_n (by omega), aup_n (by omega)]; exact hV.2.2.1, by rw [aup_n (by omega), aup_n (by omega)]; exact hV.2.2.2.1, by rw [aup_n (by omega), aup_n (by omega)]; exact hV.2.2.2.2.1, by rw [aup_n (by omega), aup_s]; rfl, by rw [aup_s]; rfl⟩ rfl hLq.over)
      · have hTs : TST sz im o (incQ q).1 (860 + 6 * i) := by
          refine ⟨e1, by rw [e2]; exact (by rw [show 860 + 6 * i + 1 = 861 + 6 * i by omega]; exact (rw9 _ (by omega)).symm), ?_, by rw [e4]; exact (by rw [show 860 + 6 * i + 5 = 865 + 6 * i by omega]; exact (rw9 _ (by omega)).symm), by rw [e5]; exact (by rw [show 860 + 6 * i + 2 = 862 + 6 * i by omega]; exact (rw9 _ (by omega)).symm), ?_⟩
          · show 0 ≤ q.1 (860 + 6 * i + 1) ∧ q.1 (860 + 6 * i + 1) < q.1 0
            rw [show 860 + 6 * i + 1 = 861 + 6 * i by omega, rw9 _ (by omega), e00]
            exact e3
          · show (q.1 (860 + 6 * i) = 1721 ∧ _) ∨ (q.1 (860 + 6 * i) = 1705 ∧ _) ∨ (q.1 (860 + 6 * i) = 1706 ∧ _) ∨ (q.1 (860 + 6 * i) = 1722 ∧ _)
            rw [rw9 _ (by omega)]
            exact e6
        refine AMet.go (L := [some (vR o), some (vR l)]) mok_X10_go (Nat.le_of_ble_eq_true rfl) rfl ?_
        refine aw_aload_n dX10_go_0 rfl ?_
        refine g_X10_9_13 rfl dX10_go_1 hV.1.1 ?_
        rw [hV.2.2.1]
        refine aw_bipush dX10_go_4 (by decide) ?_
        refine aw_icmpne (tgt := 20) dX10_go_6 (by decide) (fun h6 => ?_) (fun h6 => ?_)
        · rw [if_neg (by omega)] at hst
          have hI := hI (by omega)
          refine aw_aload_n dX10_go_20 rfl ?_
          refine aw_dup dX10_go_21 rfl ?_
          refine g_X10_9_13 rfl dX10_go_22 hV.1.1 ?_
          rw [hV.2.2.1]
          refine aw_iconst dX10_go_25 (by decide) ?_
          refine aw_iaddr dX10_go_26 (by omega) ?_
          refine p_X10_9_13 rfl dX10_go_27 hV.1.1 ?_
          refine aw_aload_n dX10_go_30 rfl ?_
          refine aw_aload_n dX10_go_31 rfl ?_
          refine c_does_11 rfl dX10_go_32 e1 (Nat.le_of_ble_eq_true rfl) (by omega) (C_x_wdoes (da := 11 + 4 * n) (f := seqF (stepF s0 n) s0 60 (i + 1) (j - 1)) (by omega) (fun hX3 K3 => C_x_all ih hB hX3 K3) hTs hI (fun hh own2 ct2 hX2 => ?_) (fun hh own2 ct2 hX2 => ?_))
          all_goals refine aK_v ?_
          all_goals rw [if_neg (by omega), if_pos (by omega), c5] at hst
          · rw [if_pos (show hldF q.1 (860 + 6 * i) from hh)] at hst
            rw [hst] at K
            refine aw_ret dX10_go_35 rfl ?_
            exact K own2 ct2 hX2
          · rw [if_neg (show ¬ hldF q.1 (860 + 6 * i) from hh)] at hst
            rw [hst] at K
            refine aw_ret dX10_go_35 rfl ?_
            exact K own2 ct2 hX2
        · refine aw_aload_n dX10_go_9 rfl ?_
          refine aw_iconst dX10_go_10 (by decide) ?_
          refine p_X10_15_13 rfl dX10_go_11 hV.1.1 (Or.inr rfl) ?_
          refine aw_aload_n dX10_go_14 rfl ?_
          refine aw_iconst dX10_go_15 (by decide) ?_
          refine p_X10_19_13 rfl dX10_go_16 hV.1.1 (Or.inr rfl) ?_
          refine aw_ret dX10_go_19 rfl ?_
          rw [if_pos (by omega)] at hst
          rw [hst] at K
          exact K own1 _ (hX.liv (fun x j hx => by rw [aup_rn hx, aup_rn hx]) ⟨by rw [aup_n (by omega), aup_n (by omega)]; exact hV.2.1, by rw [aup_n (by omega), aup_n (by omega)]; exact hV.2.2.1, by rw [aup_n (by omega), aup_n (by omega)]; exact hV.2.2.2.1, by rw [aup_n (by omega), aup_n (by omega)]; exact hV.2.2.2.2.1, by rw [aup_n (by omega), aup_s]; rfl, by rw [aup_s]; rfl⟩ rfl hLq.over)
theorem C_x_livinit {sz : Int} {im : Int → aIm} {ct : Int → Int → Int} {l ya st : Int} {Q : aPost} (ho : aob sz im l 13) (hQ : Q (.inl none) (sz, imf im l 0 ya, aup ct l 1 st)) : AMet md_X15_init 1 0 0 [vR l, vR ya, vI st] (sz, im, ct) Q := by
  refine AMet.go (L := [some (vR l), some (vR ya), some (vI st)]) mok_X15_init (Nat.le_of_ble_eq_true rfl) rfl ?_
  have h0 := ho.1
  refine aw_aload_n dX15_init_0 rfl ?_
  refine aw_objInit dX15_init_1 q1322 q151 q152 (by omega) (by omega) (Nat.le_of_ble_eq_true rfl) ?_
  refine aw_aload_n dX15_init_4 rfl ?_
  refine aw_aload_n dX15_init_5 rfl ?_
  refine pF_X15_7_13 rfl rfl dX15_init_6 ho ?_
  refine aw_aload_n dX15_init_9 rfl ?_
  refine aw_iload_n dX15_init_10 rfl ?_
  refine p_X15_13_13 rfl dX15_init_11 (aob_imf ho) ?_
  refine aw_ret dX15_init_14 rfl ?_
  exact hQ
