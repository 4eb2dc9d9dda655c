set_option maxRecDepth 100000
/-! BeeYard, 8: what there is; the law of an operation -/
theorem C_x_isIn {G : aG} {v a b : Int} {Q : aPost} (hT : a ≤ v ∧ v ≤ b → Q (.inl (some (vI 1))) G) (hF : ¬ (a ≤ v ∧ v ≤ b) → Q (.inl (some (vI 0))) G) : AMet md_X0_isIn 1 0 0 [vL v, vL a, vL b] G Q := by
  refine AMet.go (L := [some (vL v), none, some (vL a), none, some (vL b), none]) mok_X0_isIn (Nat.le_of_ble_eq_true rfl) rfl ?_
  refine aw_lload_n dX0_isIn_0 rfl ?_
  refine aw_lload_n dX0_isIn_1 rfl ?_
  refine aw_lcmplt (tgt := 17) dX0_isIn_2 dX0_isIn_3 (by decide) (fun h2 => ?_) (fun h2 => ?_)
  · refine aw_iconst dX0_isIn_17 (by decide) ?_
    refine aw_zreturn dX0_isIn_18 rfl (Or.inl rfl) ?_
    exact hF (by omega)
  · refine aw_lload_n dX0_isIn_6 rfl ?_
    refine aw_lload dX0_isIn_7 rfl ?_
    refine aw_lcmpgt (tgt := 17) dX0_isIn_9 dX0_isIn_10 (by decide) (fun h9 => ?_) (fun h9 => ?_)
    · refine aw_iconst dX0_isIn_17 (by decide) ?_
      refine aw_zreturn dX0_isIn_18 rfl (Or.inl rfl) ?_
      exact hF (by omega)
    · refine aw_iconst dX0_isIn_13 (by decide) ?_
      refine aw_goto (tgt := 18) dX0_isIn_14 (by decide) ?_
      refine aw_zreturn dX0_isIn_18 rfl (Or.inr rfl) ?_
      exact hT (by omega)
theorem C_x_yard2 {own : Int → Int} {sz : Int} {im : Int → aIm} {ct ct0 : Int → Int → Int} {Q : aPost} (hR : RT own sz im ct0) (hQ : Q (.inl (some (vR 10))) (sz, im, ct)) : AMet md_X0_yard_2 1 0 0 [vR 0] (sz, im, ct) Q := by
  refine AMet.go (L := [some (vR 0)]) mok_X0_yard_2 (Nat.le_of_ble_eq_true rfl) rfl ?_
  refine aw_aload_n dX0_yard_2_0 rfl ?_
  refine g_X0_55_0 rfl dX0_yard_2_1 hR.o0 ?_
  rw [hR.e9]
  refine g_X0_147_4 rfl dX0_yard_2_4 hR.o9 ?_
  rw [hR.e10]
  refine aw_areturn dX0_yard_2_7 rfl (Or.inl ⟨_, rfl⟩) ?_
  exact hQ
theorem C_x_xat {own : Int → Int} {sz : Int} {im : Int → aIm} {ct : Int → Int → Int} {dd : Int} {s N : Int → Int} {h : Int} {Q : aPost} (hR : RT own sz im ct) (HY : YR own 0 sz im ct 10 s dd N) (h0 : 0 ≤ h ∧ h < 4) (hQ : Q (.inl (some (vR (ct ((im 10).2.2 1) h)))) (sz, im, ct)) : AMet md_X0_at 1 0 0 [vR 0, vI h] (sz, im, ct) Q := by
  refine AMet.go (L := [some (vR 0), some (vI h)]) mok_X0_at (Nat.le_of_ble_eq_true rfl) rfl ?_
  refine aw_aload_n dX0_at_0 rfl ?_
  refine g_X0_55_0 rfl dX0_at_1 hR.o0 ?_
  rw [hR.e9]
  refine g_X0_147_4 rfl dX0_at_4 hR.o9 ?_
  rw [hR.e10]
  refine g_X0_150_5 rfl dX0_at_7 HY.1 ?_
  refine aw_iload_n dX0_at_10 rfl ?_
  refine aw_aaload dX0_at_11 HY.2.2.1 (by decide) (by omega) (by omega) ?_
  refine aw_areturn dX0_at_12 rfl (Or.inl ⟨_, rfl⟩) ?_
  exact hQ
theorem C_x_lines {own : Int → Int} {sz : Int} {im : Int → aIm} {ct ct0 ct1 : Int → Int → Int} {dd : Int} {s N : Int → Int} {Q : aPost} (hR : RT own sz im ct0) (HY : YR own 0 sz im ct1 10 s dd N) (hQ : Q (.inl (some (vR (ct 10 0)))) (sz, im, ct)) : AMet md_X0_lines 1 0 0 [vR 0] (sz, im, ct) Q := by
  refine AMet.go (L := [some (vR 0)]) mok_X0_lines (Nat.le_of_ble_eq_true rfl) rfl ?_
  refine aw_aload_n dX0_lines_0 rfl ?_
  refine g_X0_55_0 rfl dX0_lines_1 hR.o0 ?_
  rw [hR.e9]
  refine g_X0_147_4 rfl dX0_lines_4 hR.o9 ?_
  rw [hR.e10]
  refine g_X0_154_5 rfl dX0_lines_7 HY.1 ?_
  refine aw_areturn dX0_lines_10 rfl (Or.inl ⟨_, rfl⟩) ?_
  exact hQ
theorem C_x_isHive {own : Int → Int} {sz : Int} {im : Int → aIm} {ct : Int → Int → Int} {dd : Int} {s N : Int → Int} {h : Int} {Q : aPost} (hR : RT own sz im ct) (HY : YR own 0 sz im ct 10 s dd N) (hT : 0 ≤ h ∧ h < s 0 → Q (.inl (some (vI 1))) (sz, im, ct)) (hF : ¬ (0 ≤ h ∧ h < s 0) → Q (.inl (some (vI 0))) (sz, im, ct)) : AMet md_X0_isHive 2 0 0 [vR 0, vI h] (sz, im, ct) Q := by
  refine AMet.go (L := [some (vR 0), some (vI h)]) mok_X0_isHive (Nat.le_of_ble_eq_true rfl) rfl ?_
  have b0 := HY.2.2.2.2.1
  refine aw_iload_n dX0_isHive_0 rfl ?_
  refine aw_i2l dX0_isHive_1 ?_
  refine aw_lconst0 dX0_isHive_2 ?_
  refine aw_aload_n dX0_isHive_3 rfl ?_
  refine c_X0_158 rfl dX0_isHive_4 hR.o0 (Nat.le_of_ble_eq_true rfl) (by omega) (C_x_yard2 hR ?_)
  refine aK_i ?_
  refine g_X0_161_5 rfl dX0_isHive_7 HY.1 ?_
  rw [HY.2.2.2.2.2.1.1]
  refine aw_iconst dX0_isHive_10 (by decide) ?_
  refine aw_isubr dX0_isHive_11 (by omega) ?_
  refine aw_i2l dX0_isHive_12 ?_
  refine c_X0_164 rfl dX0_isHive_13  (Nat.le_of_ble_eq_true rfl) (by omega) (C_x_isIn (fun hi => ?_) (fun hi => ?_))
  · refine aK_i ?_
    refine aw_zreturn dX0_isHive_16 rfl (Or.inr rfl) ?_
    exact hT (by omega)
  · refine aK_i ?_
    refine aw_zreturn dX0_isHive_16 rfl (Or.inl rfl) ?_
    exact hF (by omega)
theorem C_x_isFrame {own : Int → Int} {sz : Int} {im : Int → aIm} {ct : Int → Int → Int} {dd : Int} {s N : Int → Int} {h f : Int} {Q : aPost} (hR : RT own sz im ct) (HY : YR own 0 sz im ct 10 s dd N) (hT : (0 ≤ h ∧ h < s 0) ∧ 0 ≤ f ∧ f < s (64 + 198 * h) → Q (.inl (some (vI 1))) (sz, im, ct)) (hF : ¬ ((0 ≤ h ∧ h < s 0) ∧ 0 ≤ f ∧ f < s (64 + 198 * h)) → Q (.inl (some (vI 0))) (sz, im, ct)) : AMet md_X0_isFrame 3 0 0 [vR 0, vI h, vI f] (sz, im, ct) Q := by
  refine AMet.go (L := [some (vR 0), some (vI h), some (vI f)]) mok_X0_isFrame (Nat.le_of_ble_eq_true rfl) rfl ?_
  have b0 := HY.2.2.2.2.1
  refine aw_aload_n dX0_isFrame_0 rfl ?_
  refine aw_iload_n dX0_isFrame_1 rfl ?_
  refine c_X0_168 rfl dX0_isFrame_2 hR.o0 (Nat.le_of_ble_eq_true rfl) (by omega) (C_x_isHive hR HY (fun hh => ?_) (fun hh => ?_))
  · refine aK_i ?_
    refine aw_ifeq (tgt := 33) dX0_isFrame_5 (by decide) (fun h => absurd h (by decide)) (fun _ => ?_)
    refine aw_iload_n dX0_isFrame_8 rfl ?_
    refine aw_i2l dX0_isFrame_9 ?_
    refine aw_lconst0 dX0_isFrame_10 ?_
    refine aw_aload_n dX0_isFrame_11 rfl ?_
    refine aw_iload_n dX0_isFrame_12 rfl ?_
    refine c_X0_172 rfl dX0_isFrame_13 hR.o0 (Nat.le_of_ble_eq_true rfl) (by omega) (C_x_xat hR HY (by omega) ?_)
    obtain ⟨g1, -⟩ := HY.2.2.2.2.2.2.2 h hh.1 hh.2
    have gn := g1.2.2.2
    refine aK_i ?_
    refine g_X0_176_9 rfl dX0_isFrame_16 g1.1 ?_
    refine aw_alen dX0_isFrame_19 g1.2.1 ?_
    refine aw_iconst dX0_isFrame_20 (by decide) ?_
    refine aw_isubr dX0_isFrame_21 (by omega) ?_
    refine aw_i2l dX0_isFrame_22 ?_
    refine c_X0_164 rfl dX0_isFrame_23  (Nat.le_of_ble_eq_true rfl) (by omega) (C_x_isIn (fun hi => ?_) (fun hi => ?_))
    · refine aK_i ?_
      refine aw_ifeq (tgt := 33) dX0_isFrame_26 (by decide) (fun h => absurd h (by decide)) (fun _ => ?_)
      refine aw_iconst dX0_isFrame_29 (by decide) ?_
      refine aw_goto (tgt := 34) dX0_isFrame_30 (by decide) ?_
      refine aw_zreturn dX0_isFrame_34 rfl (Or.inr rfl) ?_
      exact hT (by omega)
    · refine aK_i ?_
      refine aw_ifeq (tgt := 33) dX0_isFrame_26 (by decide) (fun _ => ?_) (fun h => absurd h (by decide))
      refine aw_iconst dX0_isFrame_33 (by decide) ?_
      refine aw_zreturn dX0_isFrame_34 rfl (Or.inl rfl) ?_
      exact hF (by omega)
  · refine aK_i ?_
    refine aw_ifeq (tgt := 33) dX0_isFrame_5 (by decide) (fun _ => ?_) (fun h => absurd h (by decide))
    refine aw_iconst dX0_isFrame_33 (by decide) ?_
    refine aw_zreturn dX0_isFrame_34 rfl (Or.inl rfl) ?_
    exact hF (by omega)
theorem C_x_areTwo {own : Int → Int} {sz : Int} {im : Int → aIm} {ct : Int → Int → Int} {dd : Int} {s N : Int → Int} {h g : Int} {Q : aPost} (hR : RT own sz im ct) (HY : YR own 0 sz im ct 10 s dd N) (hT : (0 ≤ h ∧ h < s 0) ∧ (0 ≤ g ∧ g < s 0) ∧ h ≠ g → Q (.inl (some (vI 1))) (sz, im, ct)) (hF : ¬ ((0 ≤ h ∧ h < s 0) ∧ (0 ≤ g ∧ g < s 0) ∧ h ≠ g) → Q (.inl (some (vI 0))) (sz, im, ct)) : AMet md_X0_areTwo 3 0 0 [vR 0, vI h, vI g] (sz, im, ct) Q := by
  refine AMet.go (L := [some (vR 0), some (vI h), some (vI g)]) mok_X0_areTwo (Nat.le_of_ble_eq_true rfl) rfl ?_
  refine aw_aload_n dX0_areTwo_0 rfl ?_
  refine aw_iload_n dX0_areTwo_1 rfl ?_
  refine c_X0_168 rfl dX0_areTwo_2 hR.o0 (Nat.le_of_ble_eq_true rfl) (by omega) (C_x_isHive hR HY (fun hh => ?_) (fun hh => ?_))
  · refine aK_i ?_
    refine aw_ifeq (tgt := 25) dX0_areTwo_5 (by decide) (fun h => absurd h (by decide)) (fun _ => ?_)
    refine aw_aload_n dX0_areTwo_8 rfl ?_
    refine aw_iload_n dX0_areTwo_9 rfl ?_
    refine c_X0_168 rfl dX0_areTwo_10 hR.o0 (Nat.le_of_ble_eq_true rfl) (by omega) (C_x_isHive hR HY (fun hh => ?_) (fun hh => ?_))
    · refine aK_i ?_
      refine aw_ifeq (tgt := 25) dX0_areTwo_13 (by decide) (fun h => absurd h (by decide)) (fun _ => ?_)
      refine aw_iload_n dX0_areTwo_16 rfl ?_
      refine aw_iload_n dX0_areTwo_17 rfl ?_
      refine aw_icmpeq (tgt := 25) dX0_areTwo_18 (by decide) (fun h18 => ?_) (fun h18 => ?_)
      · refine aw_iconst dX0_areTwo_25 (by decide) ?_
        refine aw_zreturn dX0_areTwo_26 rfl (Or.inl rfl) ?_
        exact hF (by omega)
      · refine aw_iconst dX0_areTwo_21 (by decide) ?_
        refine aw_goto (tgt := 26) dX0_areTwo_22 (by decide) ?_
        refine aw_zreturn dX0_areTwo_26 rfl (Or.inr rfl) ?_
        exact hT (by omega)
    · refine aK_i ?_
      refine aw_ifeq (tgt := 25) dX0_areTwo_13 (by decide) (fun _ => ?_) (fun h => absurd h (by decide))
      refine aw_iconst dX0_areTwo_25 (by decide) ?_
      refine aw_zreturn dX0_areTwo_26 rfl (Or.inl rfl) ?_
      exact hF (by omega)
  · refine aK_i ?_
    refine aw_ifeq (tgt := 25) dX0_areTwo_5 (by decide) (fun _ => ?_) (fun h => absurd h (by decide))
    refine aw_iconst dX0_areTwo_25 (by decide) ?_
    refine aw_zreturn dX0_areTwo_26 rfl (Or.inl rfl) ?_
    exact hF (by omega)
theorem C_x_isQueen {own : Int → Int} {sz : Int} {im : Int → aIm} {ct : Int → Int → Int} {dd : Int} {s N : Int → Int} {q : Int} {Q : aPost} (hR : RT own sz im ct) (HY : YR own 0 sz im ct 10 s dd N) (HL : LR own sz im ct (ct 10 0) s N) (hT : 0 ≤ q ∧ q < s 1 → Q (.inl (some (vI 1))) (sz, im, ct)) (hF : ¬ (0 ≤ q ∧ q < s 1) → Q (.inl (some (vI 0))) (sz, im, ct)) : AMet md_X0_isQueen 2 0 0 [vR 0, vI q] (sz, im, ct) Q := by
  refine AMet.go (L := [some (vR 0), some (vI q)]) mok_X0_isQueen (Nat.le_of_ble_eq_true rfl) rfl ?_
  have b0 := HL.2.2.2.2.1
  refine aw_iload_n dX0_isQueen_0 rfl ?_
  refine aw_i2l dX0_isQueen_1 ?_
  refine aw_lconst0 dX0_isQueen_2 ?_
  refine aw_aload_n dX0_isQueen_3 rfl ?_
  refine c_X0_182 rfl dX0_isQueen_4 hR.o0 (Nat.le_of_ble_eq_true rfl) (by omega) (C_x_lines hR HY ?_)
  refine aK_i ?_
  refine g_X0_185_6 rfl dX0_isQueen_7 HL.1 ?_
  rw [HL.2.2.2.1.1]
  refine aw_iconst dX0_isQueen_10 (by decide) ?_
  refine aw_isubr dX0_isQueen_11 (by omega) ?_
  refine aw_i2l dX0_isQueen_12 ?_
  refine c_X0_164 rfl dX0_isQueen_13  (Nat.le_of_ble_eq_true rfl) (by omega) (C_x_isIn (fun hi => ?_) (fun hi => ?_))
  · refine aK_i ?_
    refine aw_zreturn dX0_isQueen_16 rfl (Or.inr rfl) ?_
    exact hT (by omega)
  · refine aK_i ?_
    refine aw_zreturn dX0_isQueen_16 rfl (Or.inl rfl) ?_
    exact hF (by omega)
theorem C_x_isThere {own : Int → Int} {sz : Int} {im : Int → aIm} {ct : Int → Int → Int} {la w : Int} {s N : Int → Int} {Q : aPost} (HL : LR own sz im ct la s N) (hT : one s w → Q (.inl (some (vI 1))) (sz, im, ct)) (hF : ¬ one s w → Q (.inl (some (vI 0))) (sz, im, ct)) : AMet md_X6_isThere 1 0 0 [vR la, vI w] (sz, im, ct) Q := by
  refine AMet.go (L := [some (vR la), some (vI w)]) mok_X6_isThere (Nat.le_of_ble_eq_true rfl) rfl ?_
  have b0 := HL.2.2.2.2.1
  unfold one at hT hF
  refine aw_iload_n dX6_isThere_0 rfl ?_
  refine aw_iflt (tgt := 12) dX6_isThere_1 (by decide) (fun h1 => ?_) (fun h1 => ?_)
  · refine aw_iload_n dX6_isThere_12 rfl ?_
    refine aw_bipush dX6_isThere_13 (by decide) ?_
    refine aw_icmplt (tgt := 33) dX6_isThere_15 (by decide) (fun h15 => ?_) (fun h15 => ?_)
    · refine aw_iconst dX6_isThere_33 (by decide) ?_
      refine aw_zreturn dX6_isThere_34 rfl (Or.inl rfl) ?_
      exact hF (by omega)
    · refine aw_iload_n dX6_isThere_18 rfl ?_
      refine aw_bipush dX6_isThere_19 (by decide) ?_
      refine aw_aload_n dX6_isThere_21 rfl ?_
      refine g_X6_35_6 rfl dX6_isThere_22 HL.1 ?_
      rw [HL.2.2.2.1.2]
      refine aw_iaddr dX6_isThere_25 (by omega) ?_
      refine aw_icmpge (tgt := 33) dX6_isThere_26 (by decide) (fun h26 => ?_) (fun h26 => ?_)
      · refine aw_iconst dX6_isThere_33 (by decide) ?_
        refine aw_zreturn dX6_isThere_34 rfl (Or.inl rfl) ?_
        exact hF (by omega)
      · refine aw_iconst dX6_isThere_29 (by decide) ?_
        refine aw_goto (tgt := 34) dX6_isThere_30 (by decide) ?_
        refine aw_zreturn dX6_isThere_34 rfl (Or.inr rfl) ?_
        exact hT (by omega)
  · refine aw_iload_n dX6_isThere_4 rfl ?_
    refine aw_aload_n dX6_isThere_5 rfl ?_
    refine g_X6_31_6 rfl dX6_isThere_6 HL.1 ?_
    rw [HL.2.2.2.1.1]
    refine aw_icmplt (tgt := 29) dX6_isThere_9 (by decide) (fun h9 => ?_) (fun h9 => ?_)
    · refine aw_iconst dX6_isThere_29 (by decide) ?_
      refine aw_goto (tgt := 34) dX6_isThere_30 (by decide) ?_
      refine aw_zreturn dX6_isThere_34 rfl (Or.inr rfl) ?_
      exact hT (by omega)
    · refine aw_iload_n dX6_isThere_12 rfl ?_
      refine aw_bipush dX6_isThere_13 (by decide) ?_
      refine aw_icmplt (tgt := 33) dX6_isThere_15 (by decide) (fun h15 => ?_) (fun h15 => ?_)
      · refine aw_iconst dX6_isThere_33 (by decide) ?_
        refine aw_zreturn dX6_isThere_34 rfl (Or.inl rfl) ?_
        exact hF (by omega)
      · refine aw_iload_n dX6_isThere_18 rfl ?_
        refine aw_bipush dX6_isThere_19 (by decide) ?_
        refine aw_aload_n dX6_isThere_21 rfl ?_
        refine g_X6_35_6 rfl dX6_isThere_22 HL.1 ?_
        rw [HL.2.2.2.1.2]
        refine aw_iaddr dX6_isThere_25 (by omega) ?_
        refine aw_icmpge (tgt := 33) dX6_isThere_26 (by decide) (fun h26 => ?_) (fun h26 => ?_)
        · refine aw_iconst dX6_isThere_33 (by decide) ?_
          refine aw_zreturn dX6_isThere_34 rfl (Or.inl rfl) ?_
          exact hF (by omega)
        · refine aw_iconst dX6_isThere_29 (by decide) ?_
          refine aw_goto (tgt := 34) dX6_isThere_30 (by decide) ?_
          refine aw_zreturn dX6_isThere_34 rfl (Or.inr rfl) ?_
          exact hT (by omega)
theorem C_x_answer {own : Int → Int} {sz : Int} {im : Int → aIm} {ct : Int → Int → Int} {v : Int} {Q : aPost} (hR : RT own sz im ct) (hQ : ∀ u, u = (if v < 0 then 6 else 0) → Q (.inl (some (vI v))) (sz, im, aup ct 0 7 u)) : AMet md_X0_answer 1 0 0 [vR 0, vI v] (sz, im, ct) Q := by
  refine AMet.go (L := [some (vR 0), some (vI v)]) mok_X0_answer (Nat.le_of_ble_eq_true rfl) rfl ?_
  refine aw_aload_n dX0_answer_0 rfl ?_
  refine aw_iload_n dX0_answer_1 rfl ?_
  refine aw_ifge (tgt := 10) dX0_answer_2 (by decide) (fun h2 => ?_) (fun h2 => ?_)
  · refine aw_iconst dX0_answer_10 (by decide) ?_
    refine p_X0_73_0 rfl dX0_answer_11 hR.o0 ?_
    refine aw_iload_n dX0_answer_14 rfl ?_
    refine aw_ireturn dX0_answer_15 rfl ?_
    refine hQ _ ?_
    split <;> omega
  · refine aw_bipush dX0_answer_5 (by decide) ?_
    refine aw_goto (tgt := 11) dX0_answer_7 (by decide) ?_
    refine p_X0_73_0 rfl dX0_answer_11 hR.o0 ?_
    refine aw_iload_n dX0_answer_14 rfl ?_
    refine aw_ireturn dX0_answer_15 rfl ?_
    refine hQ _ ?_
    split <;> omega
theorem OP_status {sz : Int} {im : Int → aIm} {ct cm : Int → Int → Int} (h : XR (sz, im, ct) cm)   : AMet md_X0_status 1 0 0 [vR 0] (sz, im, ct) (XQ md_X7_status 1 [vR 0] cm) := by
  obtain ⟨own, N, hR, HY, HL, HN, HS, HP, HF, HX, hv2, hv3, hv4⟩ := id h
  dsimp only at hR HY HL HS HX hv2 hv3 hv4
  have hp0 := HP.1
  have hp3 := HP.2.1
  have hpq := HP.2.2.2.1.1
  have hps := HP.2.2.2.2.2
  refine AMet.go (L := [some (vR 0)]) mok_X0_status (Nat.le_of_ble_eq_true rfl) rfl ?_
  refine aw_aload_n dX0_status_0 rfl ?_
  refine g_X0_73_0 rfl dX0_status_1 hR.o0 ?_
  refine aw_ireturn dX0_status_4 rfl ?_
  refine ⟨_, rfl, ?_⟩
  refine AMet.go (L := [some (vR 0)]) mok_X7_status (Nat.le_of_ble_eq_true rfl) rfl ?_
  refine gm_66 rfl dX7_status_0 dX7_status_1 rfl ?_
  refine aw_ireturn dX7_status_4 rfl ?_
  first
    | (exfalso; omega)
    | (refine XR.sameE h ?_ ?_ ?_ ?_ ?_ ?_
       · first
           | rfl
           | exact hv2.symm
           | exact hv2
           | omega
       · repeat (first | exact xs.rf | refine xs.up ?_ (by decide))
       · repeat (first | exact mss.rf | refine mss.up0 ?_ (by decide))
       · first
           | (simp [aup, hv2, hv3, hv4]; done)
           | (simp [aup, hv2, hv3, hv4]; omega)
       · simp [aup, hv2, hv3, hv4]
       · simp [aup, hv2, hv3, hv4])
theorem OP_top {sz : Int} {im : Int → aIm} {ct cm : Int → Int → Int} (h : XR (sz, im, ct) cm)   : AMet md_X0_top 1 0 0 [vR 0] (sz, im, ct) (XQL md_X7_top 1 [vR 0] cm) := by
  obtain ⟨own, N, hR, HY, HL, HN, HS, HP, HF, HX, hv2, hv3, hv4⟩ := id h
  dsimp only at hR HY HL HS HX hv2 hv3 hv4
  have hp0 := HP.1
  have hp3 := HP.2.1
  have hpq := HP.2.2.2.1.1
  have hps := HP.2.2.2.2.2
  refine AMet.go (L := [some (vR 0)]) mok_X0_top (Nat.le_of_ble_eq_true rfl) rfl ?_
  refine aw_aload_n dX0_top_0 rfl ?_
  refine g_X0_76_0 rfl dX0_top_1 hR.o0 ?_
  refine aw_lreturn dX0_top_4 rfl ?_
  refine ⟨_, rfl, ?_⟩
  refine AMet.go (L := [some (vR 0)]) mok_X7_top (Nat.le_of_ble_eq_true rfl) rfl ?_
  refine gm_69 rfl dX7_top_0 dX7_top_1 rfl ?_
  refine aw_lreturn dX7_top_4 rfl ?_
  first
    | (exfalso; omega)
    | (refine XR.sameL h ?_ ?_ ?_ ?_ ?_ ?_
       · first
           | rfl
           | exact hv3.symm
           | exact hv3
           | omega
       · repeat (first | exact xs.rf | refine xs.up ?_ (by decide))
       · repeat (first | exact mss.rf | refine mss.up0 ?_ (by decide))
       · first
           | (simp [aup, hv2, hv3, hv4]; done)
           | (simp [aup, hv2, hv3, hv4]; omega)
       · simp [aup, hv2, hv3, hv4]
       · simp [aup, hv2, hv3, hv4])
theorem OP_bottom {sz : Int} {im : Int → aIm} {ct cm : Int → Int → Int} (h : XR (sz, im, ct) cm)   : AMet md_X0_bottom 1 0 0 [vR 0] (sz, im, ct) (XQL md_X7_bottom 1 [vR 0] cm) := by
  obtain ⟨own, N, hR, HY, HL, HN, HS, HP, HF, HX, hv2, hv3, hv4⟩ := id h
  dsimp only at hR HY HL HS HX hv2 hv3 hv4
  have hp0 := HP.1
  have hp3 := HP.2.1
  have hpq := HP.2.2.2.1.1
  have hps := HP.2.2.2.2.2
  refine AMet.go (L := [some (vR 0)]) mok_X0_bottom (Nat.le_of_ble_eq_true rfl) rfl ?_
  refine aw_aload_n dX0_bottom_0 rfl ?_
  refine g_X0_48_0 rfl dX0_bottom_1 hR.o0 ?_
  refine aw_lreturn dX0_bottom_4 rfl ?_
  refine ⟨_, rfl, ?_⟩
  refine AMet.go (L := [some (vR 0)]) mok_X7_bottom (Nat.le_of_ble_eq_true rfl) rfl ?_
  refine gm_17 rfl dX7_bottom_0 dX7_bottom_1 rfl ?_
  refine aw_lreturn dX7_bottom_4 rfl ?_
  first
    | (exfalso; omega)
    | (refine XR.sameL h ?_ ?_ ?_ ?_ ?_ ?_
       · first
           | rfl
           | exact hv4.symm
           | exact hv4
           | omega
       · repeat (first | exact xs.rf | refine xs.up ?_ (by decide))
       · repeat (first | exact mss.rf | refine mss.up0 ?_ (by decide))
       · first
           | (simp [aup, hv2, hv3, hv4]; done)
           | (simp [aup, hv2, hv3, hv4]; omega)
       · simp [aup, hv2, hv3, hv4]
       · simp [aup, hv2, hv3, hv4])
theorem OP_fieldAt {sz : Int} {im : Int → aIm} {ct cm : Int → Int → Int} (h : XR (sz, im, ct) cm) {a b c : Int} (r0 : -2147483648 ≤ a ∧ a < 2147483648) (r1 : -2147483648 ≤ b ∧ b < 2147483648) (r2 : -2147483648 ≤ c ∧ c < 2147483648)  : AMet md_X0_fieldAt 4 0 0 [vR 0, vI a, vI b, vI c] (sz, im, ct) (XQ md_X7_fieldAt 3 [vR 0, vI a, vI b, vI c] cm) := by
  obtain ⟨own, N, hR, HY, HL, HN, HS, HP, HF, HX, hv2, hv3, hv4⟩ := id h
  dsimp only at hR HY HL HS HX hv2 hv3 hv4
  have hp0 := HP.1
  have hp3 := HP.2.1
  have hpq := HP.2.2.2.1.1
  have hps := HP.2.2.2.2.2
  refine AMet.go (L := [some (vR 0), some (vI a), some (vI b), some (vI c)]) mok_X0_fieldAt (Nat.le_of_ble_eq_true rfl) rfl ?_
  refine aw_aload_n dX0_fieldAt_0 rfl ?_
  refine aw_aload_n dX0_fieldAt_1 rfl ?_
  refine aw_iload_n dX0_fieldAt_2 rfl ?_
  refine aw_iload_n dX0_fieldAt_3 rfl ?_
  refine c_X0_301 rfl dX0_fieldAt_4 hR.o0 (Nat.le_of_ble_eq_true rfl) (by omega) (C_x_isFrame hR HY (fun xf => ?_) (fun xf => ?_))
  · refine aK_i ?_
    refine aw_ifeq (tgt := 26) dX0_fieldAt_7 (by decide) (fun h => absurd h (by decide)) (fun _ => ?_)
    refine aw_iload_n dX0_fieldAt_10 rfl ?_
    refine aw_i2l dX0_fieldAt_11 ?_
    refine aw_lconst0 dX0_fieldAt_12 ?_
    refine aw_ldc2 (x := 15) dX0_fieldAt_13 q1052 (by decide) ?_
    refine c_X0_164 rfl dX0_fieldAt_16  (Nat.le_of_ble_eq_true rfl) (by omega) (C_x_isIn (fun hi => ?_) (fun hi => ?_))
    · refine aK_i ?_
      refine aw_ifeq (tgt := 26) dX0_fieldAt_19 (by decide) (fun h => absurd h (by decide)) (fun _ => ?_)
      refine aw_iconst dX0_fieldAt_22 (by decide) ?_
      refine aw_goto (tgt := 27) dX0_fieldAt_23 (by decide) ?_
      refine p_X0_73_0 rfl dX0_fieldAt_27 hR.o0 ?_
      refine aw_aload_n dX0_fieldAt_30 rfl ?_
      refine g_X0_73_0 rfl dX0_fieldAt_31 hR.o0 ?_
      repeat (first | rw [aup_s] | rw [aup_n (by omega)])
      refine aw_ifle (tgt := 41) dX0_fieldAt_34 (by decide) (fun _ => ?_) (fun h => absurd h (by decide))
      have HY1 := HY.up0 (j := 7) (v := 0) hR.1.2 (by decide)
      have hR1 := hR.up0 (j := 7) (v := 0)
      refine aw_aload_n dX0_fieldAt_41 rfl ?_
      refine aw_iload_n dX0_fieldAt_42 rfl ?_
      refine c_X0_172 rfl dX0_fieldAt_43 hR.o0 (Nat.le_of_ble_eq_true rfl) (by omega) (C_x_xat hR1 HY1 (by omega) ?_)
      obtain ⟨g1, g2, -⟩ := HY1.2.2.2.2.2.2.2 a xf.1.1 xf.1.2
      have g3 := g1.2.2.2
      have g4 := g2.2.1 b (by omega) (by omega)
      have g5 := g2.2.2.2 b c (by omega) (by omega) (by omega) (by omega)
      unfold sh at g5
      rw [show 64 + 198 * a + 6 + (16 * b + c) = 64 + 198 * a + 6 + 16 * b + c by omega] at g5
      refine aK_i ?_
      refine g_X0_176_9 rfl dX0_fieldAt_46 g1.1 ?_
      refine aw_iload_n dX0_fieldAt_49 rfl ?_
      refine aw_aaload dX0_fieldAt_50 g1.2.1 (by decide) (by omega) (by omega) ?_
      refine aw_iload_n dX0_fieldAt_51 rfl ?_
      refine aw_saload dX0_fieldAt_52 g4 (by omega) (by omega) ?_
      try (rw [g5])
      refine aw_ireturn dX0_fieldAt_53 rfl ?_
      refine ⟨_, rfl, ?_⟩
      refine AMet.go (L := [some (vR 0), some (vI a), some (vI b), some (vI c)]) mok_X7_fieldAt (Nat.le_of_ble_eq_true rfl) rfl ?_
      refine aw_aload_n dX7_fieldAt_0 rfl ?_
      refine aw_iload_n dX7_fieldAt_1 rfl ?_
      refine aw_iload_n dX7_fieldAt_2 rfl ?_
      refine c_X7_298 rfl dX7_fieldAt_3 m_ob (Nat.le_of_ble_eq_true rfl) (by omega) (C_m_isFrame (by omega) (fun hff => ?_) (fun hff => ?_))
      · first
          | (exfalso; omega)
          | skip
            refine aK_i ?_
            refine aw_ifeq (tgt := 45) dX7_fieldAt_6 (by decide) (fun h => absurd h (by decide)) (fun _ => ?_)
            refine aw_iload_n dX7_fieldAt_9 rfl ?_
            refine aw_iflt (tgt := 45) dX7_fieldAt_10 (by decide) (fun h10 => ?_) (fun h10 => ?_)
            · first
                | (exfalso; omega)
                | skip
                  refine aw_aload_n dX7_fieldAt_45 rfl ?_
                  refine aw_iconst dX7_fieldAt_46 (by decide) ?_
                  refine c_X7_72 rfl dX7_fieldAt_47 m_ob (Nat.le_of_ble_eq_true rfl) (by omega) (C_m_refuse ?_)
                  refine aK_i ?_
                  refine aw_ireturn dX7_fieldAt_50 rfl ?_
                  first
                    | (exfalso; omega)
                    | (refine XR.sameE h ?_ ?_ ?_ ?_ ?_ ?_
                       · first
                           | rfl
                           | omega
                       · repeat (first | exact xs.rf | refine xs.up ?_ (by decide))
                       · repeat (first | exact mss.rf | refine mss.up0 ?_ (by decide))
                       · first
                           | (simp [aup, hv2, hv3, hv4]; done)
                           | (simp [aup, hv2, hv3, hv4]; omega)
                       · simp [aup, hv2, hv3, hv4]
                       · simp [aup, hv2, hv3, hv4])
            · first
                | (exfalso; omega)
                | skip
                  refine aw_iload_n dX7_fieldAt_13 rfl ?_
                  refine aw_bipush dX7_fieldAt_14 (by decide) ?_
                  refine aw_icmpge (tgt := 45) dX7_fieldAt_16 (by decide) (fun h16 => ?_) (fun h16 => ?_)
                  · first
                      | (exfalso; omega)
                      | skip
                        refine aw_aload_n dX7_fieldAt_45 rfl ?_
                        refine aw_iconst dX7_fieldAt_46 (by decide) ?_
                        refine c_X7_72 rfl dX7_fieldAt_47 m_ob (Nat.le_of_ble_eq_true rfl) (by omega) (C_m_refuse ?_)
                        refine aK_i ?_
                        refine aw_ireturn dX7_fieldAt_50 rfl ?_
                        first
                          | (exfalso; omega)
                          | (refine XR.sameE h ?_ ?_ ?_ ?_ ?_ ?_
                             · first
                                 | rfl
                                 | omega
                             · repeat (first | exact xs.rf | refine xs.up ?_ (by decide))
                             · repeat (first | exact mss.rf | refine mss.up0 ?_ (by decide))
                             · first
                                 | (simp [aup, hv2, hv3, hv4]; done)
                                 | (simp [aup, hv2, hv3, hv4]; omega)
                             · simp [aup, hv2, hv3, hv4]
                             · simp [aup, hv2, hv3, hv4])
                  · first
                      | (exfalso; omega)
                      | skip
                        refine aw_aload_n dX7_fieldAt_19 rfl ?_
                        refine gm_7 rfl dX7_fieldAt_20 dX7_fieldAt_21 rfl ?_
                        refine aw_iload_n dX7_fieldAt_24 rfl ?_
                        refine c_X7_217 rfl dX7_fieldAt_25  (Nat.le_of_ble_eq_true rfl) (by omega) (C_m_hiveRow (by omega) ?_)
                        refine aK_i ?_
                        refine aw_bipush dX7_fieldAt_28 (by decide) ?_
                        refine aw_iaddr dX7_fieldAt_30 (by omega) ?_
                        refine aw_bipush dX7_fieldAt_31 (by decide) ?_
                        refine aw_iload_n dX7_fieldAt_33 rfl ?_
                        refine aw_imulr dX7_fieldAt_34 (by omega) ?_
                        refine aw_iaddr dX7_fieldAt_35 (by omega) ?_
                        refine aw_iload_n dX7_fieldAt_36 rfl ?_
                        refine aw_iaddr dX7_fieldAt_37 (by omega) ?_
                        refine aw_iaload dX7_fieldAt_38 m_a1 (by omega) (by omega) ?_
                        refine c_X7_76 rfl dX7_fieldAt_39 m_ob (Nat.le_of_ble_eq_true rfl) (by omega) (C_m_gives ?_)
                        refine aK_i ?_
                        refine aw_goto (tgt := 50) dX7_fieldAt_42 (by decide) ?_
                        refine aw_ireturn dX7_fieldAt_50 rfl ?_
                        first
                          | (exfalso; omega)
                          | (refine XR.sameE h ?_ ?_ ?_ ?_ ?_ ?_
                             · first
                                 | rfl
                                 | omega
                             · repeat (first | exact xs.rf | refine xs.up ?_ (by decide))
                             · repeat (first | exact mss.rf | refine mss.up0 ?_ (by decide))
                             · first
                                 | (simp [aup, hv2, hv3, hv4]; done)
                                 | (simp [aup, hv2, hv3, hv4]; omega)
                             · simp [aup, hv2, hv3, hv4]
                             · simp [aup, hv2, hv3, hv4])
      · first
          | (exfalso; omega)
          | skip
            refine aK_i ?_
            refine aw_ifeq (tgt := 45) dX7_fieldAt_6 (by decide) (fun _ => ?_) (fun h => absurd h (by decide))
            refine aw_aload_n dX7_fieldAt_45 rfl ?_
            refine aw_iconst dX7_fieldAt_46 (by decide) ?_
            refine c_X7_72 rfl dX7_fieldAt_47 m_ob (Nat.le_of_ble_eq_true rfl) (by omega) (C_m_refuse ?_)
            refine aK_i ?_
            refine aw_ireturn dX7_fieldAt_50 rfl ?_
            first
              | (exfalso; omega)
              | (refine XR.sameE h ?_ ?_ ?_ ?_ ?_ ?_
                 · first
                     | rfl
                     | omega
                 · repeat (first | exact xs.rf | refine xs.up ?_ (by decide))
                 · repeat (first | exact mss.rf | refine mss.up0 ?_ (by decide))
                 · first
                     | (simp [aup, hv2, hv3, hv4]; done)
                     | (simp [aup, hv2, hv3, hv4]; omega)
                 · simp [aup, hv2, hv3, hv4]
                 · simp [aup, hv2, hv3, hv4])
    · refine aK_i ?_
      refine aw_ifeq (tgt := 26) dX0_fieldAt_19 (by decide) (fun _ => ?_) (fun h => absurd h (by decide))
      refine aw_iconst dX0_fieldAt_26 (by decide) ?_
      refine p_X0_73_0 rfl dX0_fieldAt_27 hR.o0 ?_
      refine aw_aload_n dX0_fieldAt_30 rfl ?_
      refine g_X0_73_0 rfl dX0_fieldAt_31 hR.o0 ?_
      repeat (first | rw [aup_s] | rw [aup_n (by omega)])
      refine aw_ifle (tgt := 41) dX0_fieldAt_34 (by decide) (fun h => absurd h (by decide)) (fun _ => ?_)
      refine aw_iconst dX0_fieldAt_37 (by decide) ?_
      refine aw_goto (tgt := 53) dX0_fieldAt_38 (by decide) ?_
      try (rw [g5])
      refine aw_ireturn dX0_fieldAt_53 rfl ?_
      refine ⟨_, rfl, ?_⟩
      refine AMet.go (L := [some (vR 0), some (vI a), some (vI b), some (vI c)]) mok_X7_fieldAt (Nat.le_of_ble_eq_true rfl) rfl ?_
      refine aw_aload_n dX7_fieldAt_0 rfl ?_
      refine aw_iload_n dX7_fieldAt_1 rfl ?_
      refine aw_iload_n dX7_fieldAt_2 rfl ?_
      refine c_X7_298 rfl dX7_fieldAt_3 m_ob (Nat.le_of_ble_eq_true rfl) (by omega) (C_m_isFrame (by omega) (fun hff => ?_) (fun hff => ?_))
      · first
          | (exfalso; omega)
          | skip
            refine aK_i ?_
            refine aw_ifeq (tgt := 45) dX7_fieldAt_6 (by decide) (fun h => absurd h (by decide)) (fun _ => ?_)
            refine aw_iload_n dX7_fieldAt_9 rfl ?_
            refine aw_iflt (tgt := 45) dX7_fieldAt_10 (by decide) (fun h10 => ?_) (fun h10 => ?_)
            · first
                | (exfalso; omega)
                | skip
                  refine aw_aload_n dX7_fieldAt_45 rfl ?_
                  refine aw_iconst dX7_fieldAt_46 (by decide) ?_
                  refine c_X7_72 rfl dX7_fieldAt_47 m_ob (Nat.le_of_ble_eq_true rfl) (by omega) (C_m_refuse ?_)
                  refine aK_i ?_
                  refine aw_ireturn dX7_fieldAt_50 rfl ?_
                  first
                    | (exfalso; omega)
                    | (refine XR.sameE h ?_ ?_ ?_ ?_ ?_ ?_
                       · first
                           | rfl
                           | omega
                       · repeat (first | exact xs.rf | refine xs.up ?_ (by decide))
                       · repeat (first | exact mss.rf | refine mss.up0 ?_ (by decide))
                       · first
                           | (simp [aup, hv2, hv3, hv4]; done)
                           | (simp [aup, hv2, hv3, hv4]; omega)
                       · simp [aup, hv2, hv3, hv4]
                       · simp [aup, hv2, hv3, hv4])
            · first
                | (exfalso; omega)
                | skip
                  refine aw_iload_n dX7_fieldAt_13 rfl ?_
                  refine aw_bipush dX7_fieldAt_14 (by decide) ?_
                  refine aw_icmpge (tgt := 45) dX7_fieldAt_16 (by decide) (fun h16 => ?_) (fun h16 => ?_)
                  · first
                      | (exfalso; omega)
                      | skip
                        refine aw_aload_n dX7_fieldAt_45 rfl ?_
                        refine aw_iconst dX7_fieldAt_46 (by decide) ?_
                        refine c_X7_72 rfl dX7_fieldAt_47 m_ob (Nat.le_of_ble_eq_true rfl) (by omega) (C_m_refuse ?_)
                        refine aK_i ?_
                        refine aw_ireturn dX7_fieldAt_50 rfl ?_
                        first
                          | (exfalso; omega)
                          | (refine XR.sameE h ?_ ?_ ?_ ?_ ?_ ?_
                             · first
                                 | rfl
                                 | omega
                             · repeat (first | exact xs.rf | refine xs.up ?_ (by decide))
                             · repeat (first | exact mss.rf | refine mss.up0 ?_ (by decide))
                             · first
                                 | (simp [aup, hv2, hv3, hv4]; done)
                                 | (simp [aup, hv2, hv3, hv4]; omega)
                             · simp [aup, hv2, hv3, hv4]
                             · simp [aup, hv2, hv3, hv4])
                  · first
                      | (exfalso; omega)
                      | skip
                        refine aw_aload_n dX7_fieldAt_19 rfl ?_
                        refine gm_7 rfl dX7_fieldAt_20 dX7_fieldAt_21 rfl ?_
                        refine aw_iload_n dX7_fieldAt_24 rfl ?_
                        refine c_X7_217 rfl dX7_fieldAt_25  (Nat.le_of_ble_eq_true rfl) (by omega) (C_m_hiveRow (by omega) ?_)
                        refine aK_i ?_
                        refine aw_bipush dX7_fieldAt_28 (by decide) ?_
                        refine aw_iaddr dX7_fieldAt_30 (by omega) ?_
                        refine aw_bipush dX7_fieldAt_31 (by decide) ?_
                        refine aw_iload_n dX7_fieldAt_33 rfl ?_
                        refine aw_imulr dX7_fieldAt_34 (by omega) ?_
                        refine aw_iaddr dX7_fieldAt_35 (by omega) ?_
                        refine aw_iload_n dX7_fieldAt_36 rfl ?_
                        refine aw_iaddr dX7_fieldAt_37 (by omega) ?_
                        refine aw_iaload dX7_fieldAt_38 m_a1 (by omega) (by omega) ?_
                        refine c_X7_76 rfl dX7_fieldAt_39 m_ob (Nat.le_of_ble_eq_true rfl) (by omega) (C_m_gives ?_)
                        refine aK_i ?_
                        refine aw_goto (tgt := 50) dX7_fieldAt_42 (by decide) ?_
                        refine aw_ireturn dX7_fieldAt_50 rfl ?_
                        first
                          | (exfalso; omega)
                          | (refine XR.sameE h ?_ ?_ ?_ ?_ ?_ ?_
                             · first
                                 | rfl
                                 | omega
                             · repeat (first | exact xs.rf | refine xs.up ?_ (by decide))
                             · repeat (first | exact mss.rf | refine mss.up0 ?_ (by decide))
                             · first
                                 | (simp [aup, hv2, hv3, hv4]; done)
                                 | (simp [aup, hv2, hv3, hv4]; omega)
                             · simp [aup, hv2, hv3, hv4]
                             · simp [aup, hv2, hv3, hv4])
      · first
          | (exfalso; omega)
          | skip
            refine aK_i ?_
            refine aw_ifeq (tgt := 45) dX7_fieldAt_6 (by decide) (fun _ => ?_) (fun h => absurd h (by decide))
            refine aw_aload_n dX7_fieldAt_45 rfl ?_
            refine aw_iconst dX7_fieldAt_46 (by decide) ?_
            refine c_X7_72 rfl dX7_fieldAt_47 m_ob (Nat.le_of_ble_eq_true rfl) (by omega) (C_m_refuse ?_)
            refine aK_i ?_
            refine aw_ireturn dX7_fieldAt_50 rfl ?_
            first
              | (exfalso; omega)
              | (refine XR.sameE h ?_ ?_ ?_ ?_ ?_ ?_
                 · first
                     | rfl
                     | omega
                 · repeat (first | exact xs.rf | refine xs.up ?_ (by decide))
                 · repeat (first | exact mss.rf | refine mss.up0 ?_ (by decide))
                 · first
                     | (simp [aup, hv2, hv3, hv4]; done)
                     | (simp [aup, hv2, hv3, hv4]; omega)
                 · simp [aup, hv2, hv3, hv4]
                 · simp [aup, hv2, hv3, hv4])
  · refine aK_i ?_
    refine aw_ifeq (tgt := 26) dX0_fieldAt_7 (by decide) (fun _ => ?_) (fun h => absurd h (by decide))
    refine aw_iconst dX0_fieldAt_26 (by decide) ?_
    refine p_X0_73_0 rfl dX0_fieldAt_27 hR.o0 ?_
    refine aw_aload_n dX0_fieldAt_30 rfl ?_
    refine g_X0_73_0 rfl dX0_fieldAt_31 hR.o0 ?_
    repeat (first | rw [aup_s] | rw [aup_n (by omega)])
    refine aw_ifle (tgt := 41) dX0_fieldAt_34 (by decide) (fun h => absurd h (by decide)) (fun _ => ?_)
    refine aw_iconst dX0_fieldAt_37 (by decide) ?_
    refine aw_goto (tgt := 53) dX0_fieldAt_38 (by decide) ?_
    try (rw [g5])
    refine aw_ireturn dX0_fieldAt_53 rfl ?_
    refine ⟨_, rfl, ?_⟩
    refine AMet.go (L := [some (vR 0), some (vI a), some (vI b), some (vI c)]) mok_X7_fieldAt (Nat.le_of_ble_eq_true rfl) rfl ?_
    refine aw_aload_n dX7_fieldAt_0 rfl ?_
    refine aw_iload_n dX7_fieldAt_1 rfl ?_
    refine aw_iload_n dX7_fieldAt_2 rfl ?_
    refine c_X7_298 rfl dX7_fieldAt_3 m_ob (Nat.le_of_ble_eq_true rfl) (by omega) (C_m_isFrame (by omega) (fun hff => ?_) (fun hff => ?_))
    · first
        | (exfalso; omega)
        | skip
          refine aK_i ?_
          refine aw_ifeq (tgt := 45) dX7_fieldAt_6 (by decide) (fun h => absurd h (by decide)) (fun _ => ?_)
          refine aw_iload_n dX7_fieldAt_9 rfl ?_
          refine aw_iflt (tgt := 45) dX7_fieldAt_10 (by decide) (fun h10 => ?_) (fun h10 => ?_)
          · first
              | (exfalso; omega)
              | skip
                refine aw_aload_n dX7_fieldAt_45 rfl ?_
                refine aw_iconst dX7_fieldAt_46 (by decide) ?_
                refine c_X7_72 rfl dX7_fieldAt_47 m_ob (Nat.le_of_ble_eq_true rfl) (by omega) (C_m_refuse ?_)
                refine aK_i ?_
                refine aw_ireturn dX7_fieldAt_50 rfl ?_
                first
                  | (exfalso; omega)
                  | (refine XR.sameE h ?_ ?_ ?_ ?_ ?_ ?_
                     · first
                         | rfl
                         | omega
                     · repeat (first | exact xs.rf | refine xs.up ?_ (by decide))
                     · repeat (first | exact mss.rf | refine mss.up0 ?_ (by decide))
                     · first
                         | (simp [aup, hv2, hv3, hv4]; done)
                         | (simp [aup, hv2, hv3, hv4]; omega)
                     · simp [aup, hv2, hv3, hv4]
                     · simp [aup, hv2, hv3, hv4])
          · first
              | (exfalso; omega)
              | skip
                refine aw_iload_n dX7_fieldAt_13 rfl ?_
                refine aw_bipush dX7_fieldAt_14 (by decide) ?_
                refine aw_icmpge (tgt := 45) dX7_fieldAt_16 (by decide) (fun h16 => ?_) (fun h16 => ?_)
                · first
                    | (exfalso; omega)
                    | skip
                      refine aw_aload_n dX7_fieldAt_45 rfl ?_
                      refine aw_iconst dX7_fieldAt_46 (by decide) ?_
                      refine c_X7_72 rfl dX7_fieldAt_47 m_ob (Nat.le_of_ble_eq_true rfl) (by omega) (C_m_refuse ?_)
                      refine aK_i ?_
                      refine aw_ireturn dX7_fieldAt_50 rfl ?_
                      first
                        | (exfalso; omega)
                        | (refine XR.sameE h ?_ ?_ ?_ ?_ ?_ ?_
                           · first
                               | rfl
                               | omega
                           · repeat (first | exact xs.rf | refine xs.up ?_ (by decide))
                           · repeat (first | exact mss.rf | refine mss.up0 ?_ (by decide))
                           · first
                               | (simp [aup, hv2, hv3, hv4]; done)
                               | (simp [aup, hv2, hv3, hv4]; omega)
                           · simp [aup, hv2, hv3, hv4]
                           · simp [aup, hv2, hv3, hv4])
                · first
                    | (exfalso; omega)
                    | skip
                      refine aw_aload_n dX7_fieldAt_19 rfl ?_
                      refine gm_7 rfl dX7_fieldAt_20 dX7_fieldAt_21 rfl ?_
                      refine aw_iload_n dX7_fieldAt_24 rfl ?_
                      refine c_X7_217 rfl dX7_fieldAt_25  (Nat.le_of_ble_eq_true rfl) (by omega) (C_m_hiveRow (by omega) ?_)
                      refine aK_i ?_
                      refine aw_bipush dX7_fieldAt_28 (by decide) ?_
                      refine aw_iaddr dX7_fieldAt_30 (by omega) ?_
                      refine aw_bipush dX7_fieldAt_31 (by decide) ?_
                      refine aw_iload_n dX7_fieldAt_33 rfl ?_
                      refine aw_imulr dX7_fieldAt_34 (by omega) ?_
                      refine aw_iaddr dX7_fieldAt_35 (by omega) ?_
                      refine aw_iload_n dX7_fieldAt_36 rfl ?_
                      refine aw_iaddr dX7_fieldAt_37 (by omega) ?_
                      refine aw_iaload dX7_fieldAt_38 m_a1 (by omega) (by omega) ?_
                      refine c_X7_76 rfl dX7_fieldAt_39 m_ob (Nat.le_of_ble_eq_true rfl) (by omega) (C_m_gives ?_)
                      refine aK_i ?_
                      refine aw_goto (tgt := 50) dX7_fieldAt_42 (by decide) ?_
                      refine aw_ireturn dX7_fieldAt_50 rfl ?_
                      first
                        | (exfalso; omega)
                        | (refine XR.sameE h ?_ ?_ ?_ ?_ ?_ ?_
                           · first
                               | rfl
                               | omega
                           · repeat (first | exact xs.rf | refine xs.up ?_ (by decide))
                           · repeat (first | exact mss.rf | refine mss.up0 ?_ (by decide))
                           · first
                               | (simp [aup, hv2, hv3, hv4]; done)
                               | (simp [aup, hv2, hv3, hv4]; omega)
                           · simp [aup, hv2, hv3, hv4]
                           · simp [aup, hv2, hv3, hv4])
    · first
        | (exfalso; omega)
        | skip
          refine aK_i ?_
          refine aw_ifeq (tgt := 45) dX7_fieldAt_6 (by decide) (fun _ => ?_) (fun h => absurd h (by decide))
          refine aw_aload_n dX7_fieldAt_45 rfl ?_
          refine aw_iconst dX7_fieldAt_46 (by decide) ?_
          refine c_X7_72 rfl dX7_fieldAt_47 m_ob (Nat.le_of_ble_eq_true rfl) (by omega) (C_m_refuse ?_)
          refine aK_i ?_
          refine aw_ireturn dX7_fieldAt_50 rfl ?_
          first
            | (exfalso; omega)
            | (refine XR.sameE h ?_ ?_ ?_ ?_ ?_ ?_
               · first
                   | rfl
                   | omega
               · repeat (first | exact xs.rf | refine xs.up ?_ (by decide))
               · repeat (first | exact mss.rf | refine mss.up0 ?_ (by decide))
               · first
                   | (simp [aup, hv2, hv3, hv4]; done)
                   | (simp [aup, hv2, hv3, hv4]; omega)
               · simp [aup, hv2, hv3, hv4]
               · simp [aup, hv2, hv3, hv4])
