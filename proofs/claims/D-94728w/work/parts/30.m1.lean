set_option maxRecDepth 100000
/-! BeeYardModel, 1: small methods -/
theorem C_m_is {ct : Int → Int → Int} {w : Int} {Q : aPost} (hT : w = 0 → Q (.inl (some (vI 1))) (gM (aup ct 0 2 w))) (hF : w ≠ 0 → Q (.inl (some (vI 0))) (gM (aup ct 0 2 w))) : AMet md_X7_is 1 0 0 [vR 0, vI w] (gM ct) Q := by
  refine AMet.go (L := [some (vR 0), some (vI w)]) mok_X7_is (Nat.le_of_ble_eq_true rfl) rfl ?_
  refine aw_aload_n dX7_is_0 rfl ?_
  refine aw_iload_n dX7_is_1 rfl ?_
  refine p_X7_66_7 rfl dX7_is_2 m_ob ?_
  refine aw_iload_n dX7_is_5 rfl ?_
  refine aw_ifne (tgt := 13) dX7_is_6 (by decide) (fun h6 => ?_) (fun h6 => ?_)
  · refine aw_iconst dX7_is_13 (by decide) ?_
    refine aw_zreturn dX7_is_14 rfl (Or.inl rfl) ?_
    exact hF (by omega)
  · refine aw_iconst dX7_is_9 (by decide) ?_
    refine aw_goto (tgt := 14) dX7_is_10 (by decide) ?_
    refine aw_zreturn dX7_is_14 rfl (Or.inr rfl) ?_
    exact hT (by omega)
theorem C_m_refuse {ct : Int → Int → Int} {w : Int} {Q : aPost} (hQ : Q (.inl (some (vI (-1)))) (gM (aup ct 0 2 w))) : AMet md_X7_refuse 1 0 0 [vR 0, vI w] (gM ct) Q := by
  refine AMet.go (L := [some (vR 0), some (vI w)]) mok_X7_refuse (Nat.le_of_ble_eq_true rfl) rfl ?_
  refine aw_aload_n dX7_refuse_0 rfl ?_
  refine aw_iload_n dX7_refuse_1 rfl ?_
  refine p_X7_66_7 rfl dX7_refuse_2 m_ob ?_
  refine aw_iconst dX7_refuse_5 (by decide) ?_
  refine aw_ireturn dX7_refuse_6 rfl ?_
  exact hQ
theorem C_m_gives {ct : Int → Int → Int} {w : Int} {Q : aPost} (hQ : Q (.inl (some (vI w))) (gM (aup ct 0 2 0))) : AMet md_X7_gives 1 0 0 [vR 0, vI w] (gM ct) Q := by
  refine AMet.go (L := [some (vR 0), some (vI w)]) mok_X7_gives (Nat.le_of_ble_eq_true rfl) rfl ?_
  refine aw_aload_n dX7_gives_0 rfl ?_
  refine aw_iconst dX7_gives_1 (by decide) ?_
  refine p_X7_66_7 rfl dX7_gives_2 m_ob ?_
  refine aw_iload_n dX7_gives_5 rfl ?_
  refine aw_ireturn dX7_gives_6 rfl ?_
  exact hQ
theorem C_m_orNone {ct : Int → Int → Int} {w : Int} {Q : aPost} (hN : w = -1 → Q (.inl (some (vI (-1)))) (gM (aup ct 0 2 6))) (hQ : w ≠ -1 → Q (.inl (some (vI w))) (gM (aup ct 0 2 0))) : AMet md_X7_orNone 2 0 0 [vR 0, vI w] (gM ct) Q := by
  refine AMet.go (L := [some (vR 0), some (vI w)]) mok_X7_orNone (Nat.le_of_ble_eq_true rfl) rfl ?_
  refine aw_iload_n dX7_orNone_0 rfl ?_
  refine aw_iconst dX7_orNone_1 (by decide) ?_
  refine aw_icmpne (tgt := 14) dX7_orNone_2 (by decide) (fun h2 => ?_) (fun h2 => ?_)
  · have hQ := hQ h2
    refine aw_aload_n dX7_orNone_14 rfl ?_
    refine aw_iload_n dX7_orNone_15 rfl ?_
    refine c_X7_76 rfl dX7_orNone_16 m_ob (Nat.le_of_ble_eq_true rfl) (by omega) (C_m_gives ?_)
    refine aK_i ?_
    refine aw_ireturn dX7_orNone_19 rfl ?_
    exact hQ
  · have hQ := hN (by omega)
    refine aw_aload_n dX7_orNone_5 rfl ?_
    refine aw_bipush dX7_orNone_6 (by decide) ?_
    refine c_X7_72 rfl dX7_orNone_8 m_ob (Nat.le_of_ble_eq_true rfl) (by omega) (C_m_refuse ?_)
    refine aK_i ?_
    refine aw_goto (tgt := 19) dX7_orNone_11 (by decide) ?_
    refine aw_ireturn dX7_orNone_19 rfl ?_
    exact hQ
theorem C_m_isTray {G : aG} {t : Int} {Q : aPost} (hT : 0 ≤ t ∧ t < 4 → Q (.inl (some (vI 1))) G) (hF : ¬ (0 ≤ t ∧ t < 4) → Q (.inl (some (vI 0))) G) : AMet md_X7_isTray 1 0 0 [vI t] G Q := by
  refine AMet.go (L := [some (vI t)]) mok_X7_isTray (Nat.le_of_ble_eq_true rfl) rfl ?_
  refine aw_iload_n dX7_isTray_0 rfl ?_
  refine aw_iflt (tgt := 13) dX7_isTray_1 (by decide) (fun h1 => ?_) (fun h1 => ?_)
  · refine aw_iconst dX7_isTray_13 (by decide) ?_
    refine aw_zreturn dX7_isTray_14 rfl (Or.inl rfl) ?_
    exact hF (by omega)
  · refine aw_iload_n dX7_isTray_4 rfl ?_
    refine aw_iconst dX7_isTray_5 (by decide) ?_
    refine aw_icmpge (tgt := 13) dX7_isTray_6 (by decide) (fun h6 => ?_) (fun h6 => ?_)
    · refine aw_iconst dX7_isTray_13 (by decide) ?_
      refine aw_zreturn dX7_isTray_14 rfl (Or.inl rfl) ?_
      exact hF (by omega)
    · refine aw_iconst dX7_isTray_9 (by decide) ?_
      refine aw_goto (tgt := 14) dX7_isTray_10 (by decide) ?_
      refine aw_zreturn dX7_isTray_14 rfl (Or.inr rfl) ?_
      exact hT (by omega)
theorem C_m_isFrom {G : aG} {v a b : Int} {Q : aPost} (hT : a ≤ v ∧ v ≤ b → Q (.inl (some (vI 1))) G) (hF : ¬ (a ≤ v ∧ v ≤ b) → Q (.inl (some (vI 0))) G) : AMet md_X7_isFrom 1 0 0 [vL v, vL a, vL b] G Q := by
  refine AMet.go (L := [some (vL v), none, some (vL a), none, some (vL b), none]) mok_X7_isFrom (Nat.le_of_ble_eq_true rfl) rfl ?_
  refine aw_lload_n dX7_isFrom_0 rfl ?_
  refine aw_lload_n dX7_isFrom_1 rfl ?_
  refine aw_lcmplt (tgt := 17) dX7_isFrom_2 dX7_isFrom_3 (by decide) (fun h2 => ?_) (fun h2 => ?_)
  · refine aw_iconst dX7_isFrom_17 (by decide) ?_
    refine aw_zreturn dX7_isFrom_18 rfl (Or.inl rfl) ?_
    exact hF (by omega)
  · refine aw_lload_n dX7_isFrom_6 rfl ?_
    refine aw_lload dX7_isFrom_7 rfl ?_
    refine aw_lcmpgt (tgt := 17) dX7_isFrom_9 dX7_isFrom_10 (by decide) (fun h9 => ?_) (fun h9 => ?_)
    · refine aw_iconst dX7_isFrom_17 (by decide) ?_
      refine aw_zreturn dX7_isFrom_18 rfl (Or.inl rfl) ?_
      exact hF (by omega)
    · refine aw_iconst dX7_isFrom_13 (by decide) ?_
      refine aw_goto (tgt := 18) dX7_isFrom_14 (by decide) ?_
      refine aw_zreturn dX7_isFrom_18 rfl (Or.inr rfl) ?_
      exact hT (by omega)
theorem C_m_isSmall {G : aG} {t : Int} {Q : aPost} (hT : 97 ≤ t ∧ t ≤ 122 → Q (.inl (some (vI 1))) G) (hF : ¬ (97 ≤ t ∧ t ≤ 122) → Q (.inl (some (vI 0))) G) : AMet md_X7_isSmall 1 0 0 [vI t] G Q := by
  refine AMet.go (L := [some (vI t)]) mok_X7_isSmall (Nat.le_of_ble_eq_true rfl) rfl ?_
  refine aw_iload_n dX7_isSmall_0 rfl ?_
  refine aw_bipush dX7_isSmall_1 (by decide) ?_
  refine aw_icmplt (tgt := 16) dX7_isSmall_3 (by decide) (fun h3 => ?_) (fun h3 => ?_)
  · refine aw_iconst dX7_isSmall_16 (by decide) ?_
    refine aw_zreturn dX7_isSmall_17 rfl (Or.inl rfl) ?_
    exact hF (by omega)
  · refine aw_iload_n dX7_isSmall_6 rfl ?_
    refine aw_bipush dX7_isSmall_7 (by decide) ?_
    refine aw_icmpgt (tgt := 16) dX7_isSmall_9 (by decide) (fun h9 => ?_) (fun h9 => ?_)
    · refine aw_iconst dX7_isSmall_16 (by decide) ?_
      refine aw_zreturn dX7_isSmall_17 rfl (Or.inl rfl) ?_
      exact hF (by omega)
    · refine aw_iconst dX7_isSmall_12 (by decide) ?_
      refine aw_goto (tgt := 17) dX7_isSmall_13 (by decide) ?_
      refine aw_zreturn dX7_isSmall_17 rfl (Or.inr rfl) ?_
      exact hT (by omega)
theorem C_m_isDigit {G : aG} {t : Int} {Q : aPost} (hT : 48 ≤ t ∧ t ≤ 57 → Q (.inl (some (vI 1))) G) (hF : ¬ (48 ≤ t ∧ t ≤ 57) → Q (.inl (some (vI 0))) G) : AMet md_X7_isDigit 1 0 0 [vI t] G Q := by
  refine AMet.go (L := [some (vI t)]) mok_X7_isDigit (Nat.le_of_ble_eq_true rfl) rfl ?_
  refine aw_iload_n dX7_isDigit_0 rfl ?_
  refine aw_bipush dX7_isDigit_1 (by decide) ?_
  refine aw_icmplt (tgt := 16) dX7_isDigit_3 (by decide) (fun h3 => ?_) (fun h3 => ?_)
  · refine aw_iconst dX7_isDigit_16 (by decide) ?_
    refine aw_zreturn dX7_isDigit_17 rfl (Or.inl rfl) ?_
    exact hF (by omega)
  · refine aw_iload_n dX7_isDigit_6 rfl ?_
    refine aw_bipush dX7_isDigit_7 (by decide) ?_
    refine aw_icmpgt (tgt := 16) dX7_isDigit_9 (by decide) (fun h9 => ?_) (fun h9 => ?_)
    · refine aw_iconst dX7_isDigit_16 (by decide) ?_
      refine aw_zreturn dX7_isDigit_17 rfl (Or.inl rfl) ?_
      exact hF (by omega)
    · refine aw_iconst dX7_isDigit_12 (by decide) ?_
      refine aw_goto (tgt := 17) dX7_isDigit_13 (by decide) ?_
      refine aw_zreturn dX7_isDigit_17 rfl (Or.inr rfl) ?_
      exact hT (by omega)
theorem C_m_hiveRow {G : aG} {h : Int} {Q : aPost} (h0 : -1000 ≤ h ∧ h ≤ 1000) (hQ : Q (.inl (some (vI (64 + 198 * h)))) G) : AMet md_X7_hiveRow 1 0 0 [vI h] G Q := by
  refine AMet.go (L := [some (vI h)]) mok_X7_hiveRow (Nat.le_of_ble_eq_true rfl) rfl ?_
  refine aw_bipush dX7_hiveRow_0 (by decide) ?_
  refine aw_sipush dX7_hiveRow_2 (by decide) ?_
  refine aw_iload_n dX7_hiveRow_5 rfl ?_
  refine aw_imulr dX7_hiveRow_6 (by omega) ?_
  refine aw_iaddr dX7_hiveRow_7 (by omega) ?_
  refine aw_ireturn dX7_hiveRow_8 rfl ?_
  exact hQ
theorem C_m_frameRow {ct : Int → Int → Int} {h f : Int} {Q : aPost} (h0 : -1000 ≤ h ∧ h ≤ 1000) (h1 : -1000 ≤ f ∧ f ≤ 1000) (hQ : Q (.inl (some (vI (64 + 198 * h + 6 + 16 * f)))) (gM ct)) : AMet md_X7_frameRow 2 0 0 [vR 0, vI h, vI f] (gM ct) Q := by
  refine AMet.go (L := [some (vR 0), some (vI h), some (vI f)]) mok_X7_frameRow (Nat.le_of_ble_eq_true rfl) rfl ?_
  refine aw_iload_n dX7_frameRow_0 rfl ?_
  refine c_X7_217 rfl dX7_frameRow_1  (Nat.le_of_ble_eq_true rfl) (by omega) (C_m_hiveRow h0 ?_)
  refine aK_i ?_
  refine aw_bipush dX7_frameRow_4 (by decide) ?_
  refine aw_iaddr dX7_frameRow_6 (by omega) ?_
  refine aw_bipush dX7_frameRow_7 (by decide) ?_
  refine aw_iload_n dX7_frameRow_9 rfl ?_
  refine aw_imulr dX7_frameRow_10 (by omega) ?_
  refine aw_iaddr dX7_frameRow_11 (by omega) ?_
  refine aw_ireturn dX7_frameRow_12 rfl ?_
  exact hQ
theorem C_m_isHive {ct : Int → Int → Int} {h : Int} {Q : aPost} (hT : 0 ≤ h ∧ h < ct 1 0 → Q (.inl (some (vI 1))) (gM ct)) (hF : ¬ (0 ≤ h ∧ h < ct 1 0) → Q (.inl (some (vI 0))) (gM ct)) : AMet md_X7_isHive 1 0 0 [vR 0, vI h] (gM ct) Q := by
  refine AMet.go (L := [some (vR 0), some (vI h)]) mok_X7_isHive (Nat.le_of_ble_eq_true rfl) rfl ?_
  refine aw_iload_n dX7_isHive_0 rfl ?_
  refine aw_iflt (tgt := 18) dX7_isHive_1 (by decide) (fun h1 => ?_) (fun h1 => ?_)
  · refine aw_iconst dX7_isHive_18 (by decide) ?_
    refine aw_zreturn dX7_isHive_19 rfl (Or.inl rfl) ?_
    exact hF (by omega)
  · refine aw_iload_n dX7_isHive_4 rfl ?_
    refine gm_7 rfl dX7_isHive_5 dX7_isHive_6 rfl ?_
    refine aw_iconst dX7_isHive_9 (by decide) ?_
    refine aw_iaload dX7_isHive_10 m_a1 (by omega) (by omega) ?_
    refine aw_icmpge (tgt := 18) dX7_isHive_11 (by decide) (fun h11 => ?_) (fun h11 => ?_)
    · refine aw_iconst dX7_isHive_18 (by decide) ?_
      refine aw_zreturn dX7_isHive_19 rfl (Or.inl rfl) ?_
      exact hF (by omega)
    · refine aw_iconst dX7_isHive_14 (by decide) ?_
      refine aw_goto (tgt := 19) dX7_isHive_15 (by decide) ?_
      refine aw_zreturn dX7_isHive_19 rfl (Or.inr rfl) ?_
      exact hT (by omega)
theorem C_m_isFrame {ct : Int → Int → Int} {h f : Int} {Q : aPost} (hm : ct 1 0 ≤ 4) (hT : (0 ≤ h ∧ h < ct 1 0) ∧ 0 ≤ f ∧ f < ct 1 (64 + 198 * h) → Q (.inl (some (vI 1))) (gM ct)) (hF : ¬ ((0 ≤ h ∧ h < ct 1 0) ∧ 0 ≤ f ∧ f < ct 1 (64 + 198 * h)) → Q (.inl (some (vI 0))) (gM ct)) : AMet md_X7_isFrame 2 0 0 [vR 0, vI h, vI f] (gM ct) Q := by
  refine AMet.go (L := [some (vR 0), some (vI h), some (vI f)]) mok_X7_isFrame (Nat.le_of_ble_eq_true rfl) rfl ?_
  refine aw_aload_n dX7_isFrame_0 rfl ?_
  refine aw_iload_n dX7_isFrame_1 rfl ?_
  refine c_X7_274 rfl dX7_isFrame_2 m_ob (Nat.le_of_ble_eq_true rfl) (by omega) (C_m_isHive (fun hh => ?_) (fun hh => ?_))
  · refine aK_i ?_
    refine aw_ifeq (tgt := 29) dX7_isFrame_5 (by decide) (fun h => absurd h (by decide)) (fun _ => ?_)
    refine aw_iload_n dX7_isFrame_8 rfl ?_
    refine aw_iflt (tgt := 29) dX7_isFrame_9 (by decide) (fun h9 => ?_) (fun h9 => ?_)
    · refine aw_iconst dX7_isFrame_29 (by decide) ?_
      refine aw_zreturn dX7_isFrame_30 rfl (Or.inl rfl) ?_
      exact hF (by omega)
    · refine aw_iload_n dX7_isFrame_12 rfl ?_
      refine gm_7 rfl dX7_isFrame_13 dX7_isFrame_14 rfl ?_
      refine aw_iload_n dX7_isFrame_17 rfl ?_
      refine c_X7_217 rfl dX7_isFrame_18  (Nat.le_of_ble_eq_true rfl) (by omega) (C_m_hiveRow (by omega) ?_)
      refine aK_i ?_
      refine aw_iaload dX7_isFrame_21 m_a1 (by omega) (by omega) ?_
      refine aw_icmpge (tgt := 29) dX7_isFrame_22 (by decide) (fun h22 => ?_) (fun h22 => ?_)
      · refine aw_iconst dX7_isFrame_29 (by decide) ?_
        refine aw_zreturn dX7_isFrame_30 rfl (Or.inl rfl) ?_
        exact hF (by omega)
      · refine aw_iconst dX7_isFrame_25 (by decide) ?_
        refine aw_goto (tgt := 30) dX7_isFrame_26 (by decide) ?_
        refine aw_zreturn dX7_isFrame_30 rfl (Or.inr rfl) ?_
        exact hT (by omega)
  · refine aK_i ?_
    refine aw_ifeq (tgt := 29) dX7_isFrame_5 (by decide) (fun _ => ?_) (fun h => absurd h (by decide))
    refine aw_iconst dX7_isFrame_29 (by decide) ?_
    refine aw_zreturn dX7_isFrame_30 rfl (Or.inl rfl) ?_
    exact hF (by omega)
theorem C_m_isQueen {ct : Int → Int → Int} {q : Int} {Q : aPost} (hT : 0 ≤ q ∧ q < ct 1 1 → Q (.inl (some (vI 1))) (gM ct)) (hF : ¬ (0 ≤ q ∧ q < ct 1 1) → Q (.inl (some (vI 0))) (gM ct)) : AMet md_X7_isQueen 1 0 0 [vR 0, vI q] (gM ct) Q := by
  refine AMet.go (L := [some (vR 0), some (vI q)]) mok_X7_isQueen (Nat.le_of_ble_eq_true rfl) rfl ?_
  refine aw_iload_n dX7_isQueen_0 rfl ?_
  refine aw_iflt (tgt := 18) dX7_isQueen_1 (by decide) (fun h1 => ?_) (fun h1 => ?_)
  · refine aw_iconst dX7_isQueen_18 (by decide) ?_
    refine aw_zreturn dX7_isQueen_19 rfl (Or.inl rfl) ?_
    exact hF (by omega)
  · refine aw_iload_n dX7_isQueen_4 rfl ?_
    refine gm_7 rfl dX7_isQueen_5 dX7_isQueen_6 rfl ?_
    refine aw_iconst dX7_isQueen_9 (by decide) ?_
    refine aw_iaload dX7_isQueen_10 m_a1 (by omega) (by omega) ?_
    refine aw_icmpge (tgt := 18) dX7_isQueen_11 (by decide) (fun h11 => ?_) (fun h11 => ?_)
    · refine aw_iconst dX7_isQueen_18 (by decide) ?_
      refine aw_zreturn dX7_isQueen_19 rfl (Or.inl rfl) ?_
      exact hF (by omega)
    · refine aw_iconst dX7_isQueen_14 (by decide) ?_
      refine aw_goto (tgt := 19) dX7_isQueen_15 (by decide) ?_
      refine aw_zreturn dX7_isQueen_19 rfl (Or.inr rfl) ?_
      exact hT (by omega)
theorem C_m_isOne {ct : Int → Int → Int} {q : Int} {Q : aPost} (hd : 0 ≤ ct 1 2 ∧ ct 1 2 ≤ 8) (hT : (0 ≤ q ∧ q < ct 1 1) ∨ (8 ≤ q ∧ q < 8 + ct 1 2) → Q (.inl (some (vI 1))) (gM ct)) (hF : ¬ ((0 ≤ q ∧ q < ct 1 1) ∨ (8 ≤ q ∧ q < 8 + ct 1 2)) → Q (.inl (some (vI 0))) (gM ct)) : AMet md_X7_isOne 2 0 0 [vR 0, vI q] (gM ct) Q := by
  refine AMet.go (L := [some (vR 0), some (vI q)]) mok_X7_isOne (Nat.le_of_ble_eq_true rfl) rfl ?_
  refine aw_aload_n dX7_isOne_0 rfl ?_
  refine aw_iload_n dX7_isOne_1 rfl ?_
  refine c_X7_277 rfl dX7_isOne_2 m_ob (Nat.le_of_ble_eq_true rfl) (by omega) (C_m_isQueen (fun hh => ?_) (fun hh => ?_))
  · refine aK_i ?_
    refine aw_ifne (tgt := 27) dX7_isOne_5 (by decide) (fun _ => ?_) (fun h => absurd h (by decide))
    refine aw_iconst dX7_isOne_27 (by decide) ?_
    refine aw_goto (tgt := 32) dX7_isOne_28 (by decide) ?_
    refine aw_zreturn dX7_isOne_32 rfl (Or.inr rfl) ?_
    exact hT (by omega)
  · refine aK_i ?_
    refine aw_ifne (tgt := 27) dX7_isOne_5 (by decide) (fun h => absurd h (by decide)) (fun _ => ?_)
    refine aw_iload_n dX7_isOne_8 rfl ?_
    refine aw_bipush dX7_isOne_9 (by decide) ?_
    refine aw_icmplt (tgt := 31) dX7_isOne_11 (by decide) (fun h11 => ?_) (fun h11 => ?_)
    · refine aw_iconst dX7_isOne_31 (by decide) ?_
      refine aw_zreturn dX7_isOne_32 rfl (Or.inl rfl) ?_
      exact hF (by omega)
    · refine aw_iload_n dX7_isOne_14 rfl ?_
      refine aw_bipush dX7_isOne_15 (by decide) ?_
      refine gm_7 rfl dX7_isOne_17 dX7_isOne_18 rfl ?_
      refine aw_iconst dX7_isOne_21 (by decide) ?_
      refine aw_iaload dX7_isOne_22 m_a1 (by omega) (by omega) ?_
      refine aw_iaddr dX7_isOne_23 (by omega) ?_
      refine aw_icmpge (tgt := 31) dX7_isOne_24 (by decide) (fun h24 => ?_) (fun h24 => ?_)
      · refine aw_iconst dX7_isOne_31 (by decide) ?_
        refine aw_zreturn dX7_isOne_32 rfl (Or.inl rfl) ?_
        exact hF (by omega)
      · refine aw_iconst dX7_isOne_27 (by decide) ?_
        refine aw_goto (tgt := 32) dX7_isOne_28 (by decide) ?_
        refine aw_zreturn dX7_isOne_32 rfl (Or.inr rfl) ?_
        exact hT (by omega)
theorem C_m_status {ct : Int → Int → Int} {Q : aPost} (hQ : Q (.inl (some (vI (ct 0 2)))) (gM ct)) : AMet md_X7_status 1 0 0 [vR 0] (gM ct) Q := by
  refine AMet.go (L := [some (vR 0)]) mok_X7_status (Nat.le_of_ble_eq_true rfl) rfl ?_
  refine gm_66 rfl dX7_status_0 dX7_status_1 rfl ?_
  refine aw_ireturn dX7_status_4 rfl ?_
  exact hQ
theorem C_m_top {ct : Int → Int → Int} {Q : aPost} (hQ : Q (.inl (some (vL (ct 0 3)))) (gM ct)) : AMet md_X7_top 1 0 0 [vR 0] (gM ct) Q := by
  refine AMet.go (L := [some (vR 0)]) mok_X7_top (Nat.le_of_ble_eq_true rfl) rfl ?_
  refine gm_69 rfl dX7_top_0 dX7_top_1 rfl ?_
  refine aw_lreturn dX7_top_4 rfl ?_
  exact hQ
theorem C_m_bottom {ct : Int → Int → Int} {Q : aPost} (hQ : Q (.inl (some (vL (ct 0 4)))) (gM ct)) : AMet md_X7_bottom 1 0 0 [vR 0] (gM ct) Q := by
  refine AMet.go (L := [some (vR 0)]) mok_X7_bottom (Nat.le_of_ble_eq_true rfl) rfl ?_
  refine gm_17 rfl dX7_bottom_0 dX7_bottom_1 rfl ?_
  refine aw_lreturn dX7_bottom_4 rfl ?_
  exact hQ
theorem C_m_byteAt {ct : Int → Int → Int} {k : Int} {Q : aPost} (h0 : 0 ≤ k) (hs : ct 0 11 ≤ 900) (hQ : k < ct 0 11 → Q (.inl (some (vI (iand32 (ct 7 k) 255)))) (gM ct)) (hN : ¬ k < ct 0 11 → Q (.inl (some (vI (-1)))) (gM ct)) : AMet md_X7_byteAt 1 0 0 [vR 0, vI k] (gM ct) Q := by
  refine AMet.go (L := [some (vR 0), some (vI k)]) mok_X7_byteAt (Nat.le_of_ble_eq_true rfl) rfl ?_
  refine aw_iload_n dX7_byteAt_0 rfl ?_
  refine gm_102 rfl dX7_byteAt_1 dX7_byteAt_2 rfl ?_
  refine aw_icmpge (tgt := 21) dX7_byteAt_5 (by decide) (fun h5 => ?_) (fun h5 => ?_)
  · refine aw_iconst dX7_byteAt_21 (by decide) ?_
    refine aw_ireturn dX7_byteAt_22 rfl ?_
    exact hN (by omega)
  · refine gm_34 rfl dX7_byteAt_8 dX7_byteAt_9 rfl ?_
    refine aw_iload_n dX7_byteAt_12 rfl ?_
    refine aw_baload dX7_byteAt_13 m_a7 (by omega) (by omega) ?_
    refine aw_sipush dX7_byteAt_14 (by decide) ?_
    refine aw_iand dX7_byteAt_17 ?_
    refine aw_goto (tgt := 22) dX7_byteAt_18 (by decide) ?_
    refine aw_ireturn dX7_byteAt_22 rfl ?_
    exact hQ (by omega)
theorem C_m_motherOf {ct : Int → Int → Int} {w : Int} {Q : aPost} (h0 : 0 ≤ w ∧ w < 16) (hD : 8 ≤ w → Q (.inl (some (vI (ct 1 (46 + 2 * (w - 8)))))) (gM ct)) (hU : w < 8 → Q (.inl (some (vI (ct 1 (14 + 4 * w + 1))))) (gM ct)) : AMet md_X7_motherOf 1 0 0 [vR 0, vI w] (gM ct) Q := by
  refine AMet.go (L := [some (vR 0), some (vI w)]) mok_X7_motherOf (Nat.le_of_ble_eq_true rfl) rfl ?_
  refine aw_iload_n dX7_motherOf_0 rfl ?_
  refine aw_bipush dX7_motherOf_1 (by decide) ?_
  refine aw_icmplt (tgt := 23) dX7_motherOf_3 (by decide) (fun h3 => ?_) (fun h3 => ?_)
  · refine gm_7 rfl dX7_motherOf_23 dX7_motherOf_24 rfl ?_
    refine aw_bipush dX7_motherOf_27 (by decide) ?_
    refine aw_iconst dX7_motherOf_29 (by decide) ?_
    refine aw_iload_n dX7_motherOf_30 rfl ?_
    refine aw_imulr dX7_motherOf_31 (by omega) ?_
    refine aw_iaddr dX7_motherOf_32 (by omega) ?_
    refine aw_iconst dX7_motherOf_33 (by decide) ?_
    refine aw_iaddr dX7_motherOf_34 (by omega) ?_
    refine aw_iaload dX7_motherOf_35 m_a1 (by omega) (by omega) ?_
    refine aw_ireturn dX7_motherOf_36 rfl ?_
    first | exact hD (by omega) | exact hU (by omega)
  · refine gm_7 rfl dX7_motherOf_6 dX7_motherOf_7 rfl ?_
    refine aw_bipush dX7_motherOf_10 (by decide) ?_
    refine aw_iconst dX7_motherOf_12 (by decide) ?_
    refine aw_iload_n dX7_motherOf_13 rfl ?_
    refine aw_bipush dX7_motherOf_14 (by decide) ?_
    refine aw_isubr dX7_motherOf_16 (by omega) ?_
    refine aw_imulr dX7_motherOf_17 (by omega) ?_
    refine aw_iaddr dX7_motherOf_18 (by omega) ?_
    refine aw_iaload dX7_motherOf_19 m_a1 (by omega) (by omega) ?_
    refine aw_goto (tgt := 36) dX7_motherOf_20 (by decide) ?_
    refine aw_ireturn dX7_motherOf_36 rfl ?_
    first | exact hD (by omega) | exact hU (by omega)
theorem C_m_toldAs {ct : Int → Int → Int} {w : Int} {Q : aPost} (h0 : 0 ≤ w ∧ w < 16) (hD : 8 ≤ w → Q (.inl (some (vI (ct 1 (46 + 2 * (w - 8) + 1))))) (gM ct)) (hU : w < 8 → Q (.inl (some (vI (ct 1 (14 + 4 * w + 3))))) (gM ct)) : AMet md_X7_toldAs 1 0 0 [vR 0, vI w] (gM ct) Q := by
  refine AMet.go (L := [some (vR 0), some (vI w)]) mok_X7_toldAs (Nat.le_of_ble_eq_true rfl) rfl ?_
  refine aw_iload_n dX7_toldAs_0 rfl ?_
  refine aw_bipush dX7_toldAs_1 (by decide) ?_
  refine aw_icmplt (tgt := 25) dX7_toldAs_3 (by decide) (fun h3 => ?_) (fun h3 => ?_)
  · refine gm_7 rfl dX7_toldAs_25 dX7_toldAs_26 rfl ?_
    refine aw_bipush dX7_toldAs_29 (by decide) ?_
    refine aw_iconst dX7_toldAs_31 (by decide) ?_
    refine aw_iload_n dX7_toldAs_32 rfl ?_
    refine aw_imulr dX7_toldAs_33 (by omega) ?_
    refine aw_iaddr dX7_toldAs_34 (by omega) ?_
    refine aw_iconst dX7_toldAs_35 (by decide) ?_
    refine aw_iaddr dX7_toldAs_36 (by omega) ?_
    refine aw_iaload dX7_toldAs_37 m_a1 (by omega) (by omega) ?_
    refine aw_ireturn dX7_toldAs_38 rfl ?_
    first | exact hD (by omega) | exact hU (by omega)
  · refine gm_7 rfl dX7_toldAs_6 dX7_toldAs_7 rfl ?_
    refine aw_bipush dX7_toldAs_10 (by decide) ?_
    refine aw_iconst dX7_toldAs_12 (by decide) ?_
    refine aw_iload_n dX7_toldAs_13 rfl ?_
    refine aw_bipush dX7_toldAs_14 (by decide) ?_
    refine aw_isubr dX7_toldAs_16 (by omega) ?_
    refine aw_imulr dX7_toldAs_17 (by omega) ?_
    refine aw_iaddr dX7_toldAs_18 (by omega) ?_
    refine aw_iconst dX7_toldAs_19 (by decide) ?_
    refine aw_iaddr dX7_toldAs_20 (by omega) ?_
    refine aw_iaload dX7_toldAs_21 m_a1 (by omega) (by omega) ?_
    refine aw_goto (tgt := 38) dX7_toldAs_22 (by decide) ?_
    refine aw_ireturn dX7_toldAs_38 rfl ?_
    first | exact hD (by omega) | exact hU (by omega)
theorem C_m_kinOf {ct : Int → Int → Int} {a b : Int} {Q : aPost} (h0 : -1 ≤ a ∧ a < 16) (h1 : -1 ≤ b ∧ b < 16) (hN : a = -1 ∨ b = -1 → Q (.inl (some (vL 0))) (gM ct)) (hQ : 0 ≤ a → 0 ≤ b → Q (.inl (some (vL (ct 10 (16 * a + b))))) (gM ct)) : AMet md_X7_kinOf 1 0 0 [vR 0, vI a, vI b] (gM ct) Q := by
  refine AMet.go (L := [some (vR 0), some (vI a), some (vI b)]) mok_X7_kinOf (Nat.le_of_ble_eq_true rfl) rfl ?_
  refine aw_iload_n dX7_kinOf_0 rfl ?_
  refine aw_iconst dX7_kinOf_1 (by decide) ?_
  refine aw_icmpeq (tgt := 10) dX7_kinOf_2 (by decide) (fun h2 => ?_) (fun h2 => ?_)
  · refine aw_lconst0 dX7_kinOf_10 ?_
    refine aw_goto (tgt := 25) dX7_kinOf_11 (by decide) ?_
    refine aw_lreturn dX7_kinOf_25 rfl ?_
    first | exact hN (by omega) | exact hQ (by omega) (by omega)
  · refine aw_iload_n dX7_kinOf_5 rfl ?_
    refine aw_iconst dX7_kinOf_6 (by decide) ?_
    refine aw_icmpne (tgt := 14) dX7_kinOf_7 (by decide) (fun h7 => ?_) (fun h7 => ?_)
    · refine gm_50 rfl dX7_kinOf_14 dX7_kinOf_15 rfl ?_
      refine aw_bipush dX7_kinOf_18 (by decide) ?_
      refine aw_iload_n dX7_kinOf_20 rfl ?_
      refine aw_imulr dX7_kinOf_21 (by omega) ?_
      refine aw_iload_n dX7_kinOf_22 rfl ?_
      refine aw_iaddr dX7_kinOf_23 (by omega) ?_
      refine aw_laload dX7_kinOf_24 m_a10 (by omega) (by omega) ?_
      refine aw_lreturn dX7_kinOf_25 rfl ?_
      first | exact hN (by omega) | exact hQ (by omega) (by omega)
    · refine aw_lconst0 dX7_kinOf_10 ?_
      refine aw_goto (tgt := 25) dX7_kinOf_11 (by decide) ?_
      refine aw_lreturn dX7_kinOf_25 rfl ?_
      first | exact hN (by omega) | exact hQ (by omega) (by omega)
theorem C_m_fault {ct : Int → Int → Int} {w : Int} {Q : aPost} (hQ : ∀ r, r = (if w = 0 then ct 0 16 else if w = 1 then ct 0 17 else -1) → Q (.inl (some (vI r))) (gM ct)) : AMet md_X7_fault 1 0 0 [vR 0, vI w] (gM ct) Q := by
  refine AMet.go (L := [some (vR 0), some (vI w)]) mok_X7_fault (Nat.le_of_ble_eq_true rfl) rfl ?_
  refine aw_iload_n dX7_fault_0 rfl ?_
  refine aw_ifne (tgt := 11) dX7_fault_1 (by decide) (fun h1 => ?_) (fun h1 => ?_)
  · refine aw_iload_n dX7_fault_11 rfl ?_
    refine aw_iconst dX7_fault_12 (by decide) ?_
    refine aw_icmpne (tgt := 23) dX7_fault_13 (by decide) (fun h13 => ?_) (fun h13 => ?_)
    · refine aw_iconst dX7_fault_23 (by decide) ?_
      refine aw_ireturn dX7_fault_24 rfl ?_
      refine hQ _ ?_
      split <;> first | omega | (split <;> omega)
    · refine gm_41 rfl dX7_fault_16 dX7_fault_17 rfl ?_
      refine aw_goto (tgt := 24) dX7_fault_20 (by decide) ?_
      refine aw_ireturn dX7_fault_24 rfl ?_
      refine hQ _ ?_
      split <;> first | omega | (split <;> omega)
  · refine gm_37 rfl dX7_fault_4 dX7_fault_5 rfl ?_
    refine aw_goto (tgt := 24) dX7_fault_8 (by decide) ?_
    refine aw_ireturn dX7_fault_24 rfl ?_
    refine hQ _ ?_
    split <;> first | omega | (split <;> omega)
theorem C_m_laysIn {ct : Int → Int → Int} {h : Int} {Q : aPost} (h0 : 0 ≤ h ∧ h < 4) (hq : ct 1 (64 + 198 * h + 3) < 8 ∧ -1 ≤ ct 1 (64 + 198 * h + 3)) (hN : ct 1 (64 + 198 * h + 3) = -1 → Q (.inl (some (vI 0))) (gM ct)) (hQ : 0 ≤ ct 1 (64 + 198 * h + 3) → Q (.inl (some (vI (ct 1 (14 + 4 * ct 1 (64 + 198 * h + 3)))))) (gM ct)) : AMet md_X7_laysIn 2 0 0 [vR 0, vI h] (gM ct) Q := by
  refine AMet.go (L := [some (vR 0), some (vI h), none]) mok_X7_laysIn (Nat.le_of_ble_eq_true rfl) rfl ?_
  refine gm_7 rfl dX7_laysIn_0 dX7_laysIn_1 rfl ?_
  refine aw_iload_n dX7_laysIn_4 rfl ?_
  refine c_X7_217 rfl dX7_laysIn_5  (Nat.le_of_ble_eq_true rfl) (by omega) (C_m_hiveRow (by omega) ?_)
  refine aK_i ?_
  refine aw_iconst dX7_laysIn_8 (by decide) ?_
  refine aw_iaddr dX7_laysIn_9 (by omega) ?_
  refine aw_iaload dX7_laysIn_10 m_a1 (by omega) (by omega) ?_
  refine aw_istore2 dX7_laysIn_11 (by decide) rfl ?_
  refine aw_iload_n dX7_laysIn_12 rfl ?_
  refine aw_iconst dX7_laysIn_13 (by decide) ?_
  refine aw_icmpne (tgt := 21) dX7_laysIn_14 (by decide) (fun h14 => ?_) (fun h14 => ?_)
  · refine gm_7 rfl dX7_laysIn_21 dX7_laysIn_22 rfl ?_
    refine aw_bipush dX7_laysIn_25 (by decide) ?_
    refine aw_iconst dX7_laysIn_27 (by decide) ?_
    refine aw_iload_n dX7_laysIn_28 rfl ?_
    refine aw_imulr dX7_laysIn_29 (by omega) ?_
    refine aw_iaddr dX7_laysIn_30 (by omega) ?_
    refine aw_iaload dX7_laysIn_31 m_a1 (by omega) (by omega) ?_
    refine aw_ireturn dX7_laysIn_32 rfl ?_
    first | exact hN (by omega) | exact hQ (by omega)
  · refine aw_iconst dX7_laysIn_17 (by decide) ?_
    refine aw_goto (tgt := 32) dX7_laysIn_18 (by decide) ?_
    refine aw_ireturn dX7_laysIn_32 rfl ?_
    first | exact hN (by omega) | exact hQ (by omega)
