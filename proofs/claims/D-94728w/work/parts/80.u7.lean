set_option maxRecDepth 100000
/-! BeeYardModel reads: a yard -/
theorem SM.m0 {a b : Int → Int → Int} {s N : Int → Int} (h : SM a s N) (f : M0 a b) : SM b s N := by
  unfold SM
  rw [f.2 1 (by decide), f.2 2 (by decide)]
  exact h
theorem partP_p {tp : Int → Int} {n p q : Int} {s N s1 N1 : Int → Int} (hp : p ≤ n) (hy : YI s) (h : partP tp n p s N = .inr (q, s1, N1)) : p ≤ q ∧ q ≤ n := by
  have P0 := hy.1.1
  have PQ0 := hy.1.2.2.2.1.1
  unfold partP at h
  split at h
  · exact (hiveP_p hp h).1
  · split at h
    · exact (droneP_p hp PQ0.1.1 PQ0.2.1 h).1
    · split at h
      · exact (queenP_p hp PQ0.1.1 P0.1 PQ0.2.1 h).1
      · cases h
theorem C_m_yardPart {cm : Int → Int → Int} {tp : Int → Int} {n p : Int} {s N : Int → Int} {Q : aPost} (H : RM cm tp n p) (hFk : Fok cm) (hS : SM cm s N) (hy : YI s) (hF : ∀ (k pl : Int) (cm1 : Int → Int → Int), (partP tp n p s N = .inl (k, pl) ∨ ∃ q s1 N1, partP tp n p s N = .inr (q, s1, N1) ∧ ¬ sgn tp n q 59 ∧ k = wr tp n q ∧ pl = tF tp n q) → MB cm cm1 k pl → Q (.inl (some (vI 0))) (gM cm1)) (hQ : ∀ (q : Int) (s1 N1 : Int → Int) (cm1 : Int → Int → Int), partP tp n p s N = .inr (q, s1, N1) → sgn tp n q 59 → RM cm1 tp n (tE tp n q) → MF cm cm1 → SM cm1 s1 N1 → YI s1 → Q (.inl (some (vI 1))) (gM cm1)) : AMet md_X7_yardPart 9 0 0 [vR 0] (gM cm) Q := by
  refine AMet.go (L := [some (vR 0), none]) mok_X7_yardPart (Nat.le_of_ble_eq_true rfl) rfl ?_
  refine aw_aload_n dX7_yardPart_0 rfl ?_
  refine aw_ldcS (k9 := 23) dX7_yardPart_1 rfl rfl (by decide) ?_
  refine c_X7_157 rfl dX7_yardPart_3 m_ob (Nat.le_of_ble_eq_true rfl) (by omega) (C_m_inWords H ?_)
  refine aK_i ?_
  have hsw : tW tp n p = 0 ∨ tW tp n p = 1 ∨ tW tp n p = 2 ∨ (tW tp n p < 0 ∨ 2 < tW tp n p) := by omega
  rcases hsw with hsw | hsw | hsw | hsw
  · first
      | (exfalso; omega)
      | skip
        refine aw_tabIn (tgt := 32) dX7_yardPart_6 (by omega) (by omega) (off := 26) (by rw [hsw]; rfl) (by decide) ?_
        refine aw_aload_n dX7_yardPart_32 rfl ?_
        refine c_X7_194 rfl dX7_yardPart_33 m_ob (Nat.le_of_ble_eq_true rfl) (by omega) (C_m_aHive H hFk (tW_k (by omega)) hS hy (fun k pl cm1 e9 hb => ?_) (fun q s1 N1 cm1 e9 H1 f1 S1 Y1 => ?_))
        · have eP : partP tp n p s N = .inl (k, pl) := by unfold partP; rw [if_pos hsw]; exact e9
          refine aK_i ?_
          refine aw_istore1 dX7_yardPart_36 (by decide) rfl ?_
          refine aw_goto (tgt := 62) dX7_yardPart_37 (by decide) ?_
          refine aw_iload_n dX7_yardPart_62 rfl ?_
          refine aw_ifeq (tgt := 79) dX7_yardPart_63 (by decide) (fun h63 => ?_) (fun h63 => ?_)
          · refine aw_iconst dX7_yardPart_79 (by decide) ?_
            refine aw_zreturn dX7_yardPart_80 rfl (Or.inl rfl) ?_
            exact hF _ _ _ (Or.inl eP) hb
          · exfalso; omega
        · have eP : partP tp n p s N = .inr (q, s1, N1) := by unfold partP; rw [if_pos hsw]; exact e9
          refine aK_i ?_
          refine aw_istore1 dX7_yardPart_36 (by decide) rfl ?_
          refine aw_goto (tgt := 62) dX7_yardPart_37 (by decide) ?_
          refine aw_iload_n dX7_yardPart_62 rfl ?_
          refine aw_ifeq (tgt := 79) dX7_yardPart_63 (by decide) (fun h63 => ?_) (fun h63 => ?_)
          · exfalso; omega
          · refine aw_aload_n dX7_yardPart_66 rfl ?_
            refine aw_bipush dX7_yardPart_67 (by decide) ?_
            refine c_X7_204 rfl dX7_yardPart_69 m_ob (Nat.le_of_ble_eq_true rfl) (by omega) (C_m_wantSign H1 (fun cm2 hs hb => ?_) (fun cm2 hs H2 f2 => ?_))
            · refine aK_i ?_
              refine aw_ifeq (tgt := 79) dX7_yardPart_72 (by decide) (fun _ => ?_) (fun h => absurd h (by decide))
              refine aw_iconst dX7_yardPart_79 (by decide) ?_
              refine aw_zreturn dX7_yardPart_80 rfl (Or.inl rfl) ?_
              exact hF _ _ _ (Or.inr ⟨_, _, _, eP, hs, rfl, rfl⟩) (f1.b hb)
            · refine aK_i ?_
              refine aw_ifeq (tgt := 79) dX7_yardPart_72 (by decide) (fun h => absurd h (by decide)) (fun _ => ?_)
              refine aw_iconst dX7_yardPart_75 (by decide) ?_
              refine aw_goto (tgt := 80) dX7_yardPart_76 (by decide) ?_
              refine aw_zreturn dX7_yardPart_80 rfl (Or.inr rfl) ?_
              exact hQ _ _ _ _ eP hs H2 (f1.trans f2.mf) (S1.m0 f2) Y1
  · first
      | (exfalso; omega)
      | skip
        refine aw_tabIn (tgt := 40) dX7_yardPart_6 (by omega) (by omega) (off := 34) (by rw [hsw]; rfl) (by decide) ?_
        refine aw_aload_n dX7_yardPart_40 rfl ?_
        refine c_X7_198 rfl dX7_yardPart_41 m_ob (Nat.le_of_ble_eq_true rfl) (by omega) (C_m_aDrone H (tW_k (by omega)) hS hy (fun k pl cm1 e9 hb => ?_) (fun q s1 N1 cm1 e9 H1 f1 S1 Y1 => ?_))
        · have eP : partP tp n p s N = .inl (k, pl) := by unfold partP; rw [if_neg (by omega), if_pos hsw]; exact e9
          refine aK_i ?_
          refine aw_istore1 dX7_yardPart_44 (by decide) rfl ?_
          refine aw_goto (tgt := 62) dX7_yardPart_45 (by decide) ?_
          refine aw_iload_n dX7_yardPart_62 rfl ?_
          refine aw_ifeq (tgt := 79) dX7_yardPart_63 (by decide) (fun h63 => ?_) (fun h63 => ?_)
          · refine aw_iconst dX7_yardPart_79 (by decide) ?_
            refine aw_zreturn dX7_yardPart_80 rfl (Or.inl rfl) ?_
            exact hF _ _ _ (Or.inl eP) hb
          · exfalso; omega
        · have eP : partP tp n p s N = .inr (q, s1, N1) := by unfold partP; rw [if_neg (by omega), if_pos hsw]; exact e9
          refine aK_i ?_
          refine aw_istore1 dX7_yardPart_44 (by decide) rfl ?_
          refine aw_goto (tgt := 62) dX7_yardPart_45 (by decide) ?_
          refine aw_iload_n dX7_yardPart_62 rfl ?_
          refine aw_ifeq (tgt := 79) dX7_yardPart_63 (by decide) (fun h63 => ?_) (fun h63 => ?_)
          · exfalso; omega
          · refine aw_aload_n dX7_yardPart_66 rfl ?_
            refine aw_bipush dX7_yardPart_67 (by decide) ?_
            refine c_X7_204 rfl dX7_yardPart_69 m_ob (Nat.le_of_ble_eq_true rfl) (by omega) (C_m_wantSign H1 (fun cm2 hs hb => ?_) (fun cm2 hs H2 f2 => ?_))
            · refine aK_i ?_
              refine aw_ifeq (tgt := 79) dX7_yardPart_72 (by decide) (fun _ => ?_) (fun h => absurd h (by decide))
              refine aw_iconst dX7_yardPart_79 (by decide) ?_
              refine aw_zreturn dX7_yardPart_80 rfl (Or.inl rfl) ?_
              exact hF _ _ _ (Or.inr ⟨_, _, _, eP, hs, rfl, rfl⟩) (f1.b hb)
            · refine aK_i ?_
              refine aw_ifeq (tgt := 79) dX7_yardPart_72 (by decide) (fun h => absurd h (by decide)) (fun _ => ?_)
              refine aw_iconst dX7_yardPart_75 (by decide) ?_
              refine aw_goto (tgt := 80) dX7_yardPart_76 (by decide) ?_
              refine aw_zreturn dX7_yardPart_80 rfl (Or.inr rfl) ?_
              exact hQ _ _ _ _ eP hs H2 (f1.trans f2.mf) (S1.m0 f2) Y1
  · first
      | (exfalso; omega)
      | skip
        refine aw_tabIn (tgt := 48) dX7_yardPart_6 (by omega) (by omega) (off := 42) (by rw [hsw]; rfl) (by decide) ?_
        refine aw_aload_n dX7_yardPart_48 rfl ?_
        refine c_X7_201 rfl dX7_yardPart_49 m_ob (Nat.le_of_ble_eq_true rfl) (by omega) (C_m_aQueen H (tW_k (by omega)) hS hy (fun k pl cm1 e9 hb => ?_) (fun q s1 N1 cm1 e9 H1 f1 S1 Y1 => ?_))
        · have eP : partP tp n p s N = .inl (k, pl) := by unfold partP; rw [if_neg (by omega), if_neg (by omega), if_pos hsw]; exact e9
          refine aK_i ?_
          refine aw_istore1 dX7_yardPart_52 (by decide) rfl ?_
          refine aw_goto (tgt := 62) dX7_yardPart_53 (by decide) ?_
          refine aw_iload_n dX7_yardPart_62 rfl ?_
          refine aw_ifeq (tgt := 79) dX7_yardPart_63 (by decide) (fun h63 => ?_) (fun h63 => ?_)
          · refine aw_iconst dX7_yardPart_79 (by decide) ?_
            refine aw_zreturn dX7_yardPart_80 rfl (Or.inl rfl) ?_
            exact hF _ _ _ (Or.inl eP) hb
          · exfalso; omega
        · have eP : partP tp n p s N = .inr (q, s1, N1) := by unfold partP; rw [if_neg (by omega), if_neg (by omega), if_pos hsw]; exact e9
          refine aK_i ?_
          refine aw_istore1 dX7_yardPart_52 (by decide) rfl ?_
          refine aw_goto (tgt := 62) dX7_yardPart_53 (by decide) ?_
          refine aw_iload_n dX7_yardPart_62 rfl ?_
          refine aw_ifeq (tgt := 79) dX7_yardPart_63 (by decide) (fun h63 => ?_) (fun h63 => ?_)
          · exfalso; omega
          · refine aw_aload_n dX7_yardPart_66 rfl ?_
            refine aw_bipush dX7_yardPart_67 (by decide) ?_
            refine c_X7_204 rfl dX7_yardPart_69 m_ob (Nat.le_of_ble_eq_true rfl) (by omega) (C_m_wantSign H1 (fun cm2 hs hb => ?_) (fun cm2 hs H2 f2 => ?_))
            · refine aK_i ?_
              refine aw_ifeq (tgt := 79) dX7_yardPart_72 (by decide) (fun _ => ?_) (fun h => absurd h (by decide))
              refine aw_iconst dX7_yardPart_79 (by decide) ?_
              refine aw_zreturn dX7_yardPart_80 rfl (Or.inl rfl) ?_
              exact hF _ _ _ (Or.inr ⟨_, _, _, eP, hs, rfl, rfl⟩) (f1.b hb)
            · refine aK_i ?_
              refine aw_ifeq (tgt := 79) dX7_yardPart_72 (by decide) (fun h => absurd h (by decide)) (fun _ => ?_)
              refine aw_iconst dX7_yardPart_75 (by decide) ?_
              refine aw_goto (tgt := 80) dX7_yardPart_76 (by decide) ?_
              refine aw_zreturn dX7_yardPart_80 rfl (Or.inr rfl) ?_
              exact hQ _ _ _ _ eP hs H2 (f1.trans f2.mf) (S1.m0 f2) Y1
  · first
      | (exfalso; omega)
      | skip
        refine aw_tabOut (tgt := 56) dX7_yardPart_6 (by omega) (by decide) ?_
        refine aw_aload_n dX7_yardPart_56 rfl ?_
        refine aw_iconst dX7_yardPart_57 (by decide) ?_
        refine c_X7_154 rfl dX7_yardPart_58 m_ob (Nat.le_of_ble_eq_true rfl) (by omega) (C_m_fails H (k := 2) (by decide) (fun cm1 hb => ?_))
        refine aK_i ?_
        refine aw_zreturn dX7_yardPart_61 rfl (Or.inl rfl) ?_
        exact hF _ _ _ (Or.inl (by unfold partP; rw [if_neg (by omega), if_neg (by omega), if_neg (by omega)])) (show MB cm cm1 (wr tp n p) (tF tp n p) from hb)
theorem L_m_pl {ct : Int → Int → Int} {t : Int} {Q : aPost} {d kc ks : Nat} (hd : 1 ≤ d) (ht : 0 ≤ t ∧ t + 1230 ≤ 7578) (hQ : ∀ cm1 : Int → Int → Int, (∀ i, 0 ≤ i → i < 1230 → cm1 1 (t + i) = row0 i) → (∀ i, i < t ∨ t + 1230 ≤ i → cm1 1 i = ct 1 i) → (∀ b, b ≠ 1 → cm1 b = ct b) → Q (.inl none) (gM cm1)) : ∀ (r j : Nat) (c1 : Int → Int → Int), j + r = 1230 → (∀ i : Int, 0 ≤ i → i < j → c1 1 (t + i) = 0) → (∀ i, i < t ∨ t + 1230 ≤ i → c1 1 i = ct 1 i) → (∀ b, b ≠ 1 → c1 b = ct b) → AW (mq Q) md_X7_plain d kc ks 2 [some (vR 0), some (vI t), some (vI j)] [] (gM c1) := by
  intro r
  induction r with
  | zero =>
    intro j c1 h1 h2 h3 h4
    have ej : j = 1230 := by omega
    subst ej
    refine aw_iload_n dX7_plain_2 rfl ?_
    refine aw_sipush dX7_plain_3 (by decide) ?_
    refine aw_icmpge (tgt := 24) dX7_plain_6 (by decide) (fun h6 => ?_) (fun h6 => ?_)
    · refine gm_7 rfl dX7_plain_24 dX7_plain_25 rfl ?_
      refine aw_iload_n dX7_plain_28 rfl ?_
      refine aw_bipush dX7_plain_29 (by decide) ?_
      refine aw_iaddr dX7_plain_31 (by omega) ?_
      refine aw_iconst dX7_plain_32 (by decide) ?_
      refine aw_iastore dX7_plain_33 m_a1 (by omega) (by omega) ?_
      refine gm_7 rfl dX7_plain_34 dX7_plain_35 rfl ?_
      refine aw_iload_n dX7_plain_38 rfl ?_
      refine aw_bipush dX7_plain_39 (by decide) ?_
      refine aw_iaddr dX7_plain_41 (by omega) ?_
      refine aw_iconst dX7_plain_42 (by decide) ?_
      refine aw_iastore dX7_plain_43 m_a1 (by omega) (by omega) ?_
      refine gm_7 rfl dX7_plain_44 dX7_plain_45 rfl ?_
      refine aw_iload_n dX7_plain_48 rfl ?_
      refine aw_bipush dX7_plain_49 (by decide) ?_
      refine aw_iaddr dX7_plain_51 (by omega) ?_
      refine aw_iconst dX7_plain_52 (by decide) ?_
      refine aw_iastore dX7_plain_53 m_a1 (by omega) (by omega) ?_
      refine aw_ret dX7_plain_54 rfl ?_
      refine hQ _ (fun i i0 i1 => ?_) (fun i hi => by rw [aup_n (by omega), aup_n (by omega), aup_n (by omega)]; exact h3 i hi) (fun b hb => by rw [aup_rn hb, aup_rn hb, aup_rn hb]; exact h4 b hb)
      unfold row0
      by_cases a : i = 12
      · subst a; rw [aup_s]; exact (if_pos (by omega)).symm
      rw [aup_n (by omega)]
      by_cases b : i = 11
      · subst b; rw [aup_s]; exact (if_pos (by omega)).symm
      rw [aup_n (by omega)]
      by_cases c : i = 10
      · subst c; rw [aup_s]; exact (if_pos (by omega)).symm
      rw [aup_n (by omega), if_neg (by omega)]
      exact h2 i i0 i1
    · exfalso; omega
  | succ r ih =>
    intro j c1 h1 h2 h3 h4
    refine aw_iload_n dX7_plain_2 rfl ?_
    refine aw_sipush dX7_plain_3 (by decide) ?_
    refine aw_icmpge (tgt := 24) dX7_plain_6 (by decide) (fun h6 => ?_) (fun h6 => ?_)
    · exfalso; omega
    · refine gm_7 rfl dX7_plain_9 dX7_plain_10 rfl ?_
      refine aw_iload_n dX7_plain_13 rfl ?_
      refine aw_iload_n dX7_plain_14 rfl ?_
      refine aw_iaddr dX7_plain_15 (by omega) ?_
      refine aw_iconst dX7_plain_16 (by decide) ?_
      refine aw_iastore dX7_plain_17 m_a1 (by omega) (by omega) ?_
      refine aw_iinc2r dX7_plain_18 (by decide) (by decide) rfl (by omega) ?_
      refine aw_goto (tgt := 2) dX7_plain_21 (by decide) ?_
      refine ih (j + 1) _ (by omega) (fun i i0 i1 => ?_) (fun i hi => by rw [aup_n (by omega)]; exact h3 i hi) (fun b hb => by rw [aup_rn hb]; exact h4 b hb)
      by_cases z : i = j
      · subst z; exact aup_s
      · rw [aup_n (by omega)]; exact h2 i i0 (by omega)
theorem C_m_plain {ct : Int → Int → Int} {t : Int} {Q : aPost} (ht : 0 ≤ t ∧ t + 1230 ≤ 7578) (hQ : ∀ cm1 : Int → Int → Int, (∀ i, 0 ≤ i → i < 1230 → cm1 1 (t + i) = row0 i) → (∀ i, i < t ∨ t + 1230 ≤ i → cm1 1 i = ct 1 i) → (∀ b, b ≠ 1 → cm1 b = ct b) → Q (.inl none) (gM cm1)) : AMet md_X7_plain 1 0 0 [vR 0, vI t] (gM ct) Q := by
  refine AMet.go (L := [some (vR 0), some (vI t), none]) mok_X7_plain (Nat.le_of_ble_eq_true rfl) rfl ?_
  refine aw_iconst dX7_plain_0 (by decide) ?_
  refine aw_istore2 dX7_plain_1 (by decide) rfl ?_
  exact L_m_pl (by decide) ht hQ 1230 0 ct (by omega) (fun i i0 i1 => by omega) (fun _ _ => rfl) (fun _ _ => rfl)
theorem C_m_taken {ct : Int → Int → Int} {w : Int} {Q : aPost} (hF : 0 < ct 0 18 → Q (.inl (some (vI (-1)))) (gM (aup (aup ct 0 16 (ct 0 18)) 0 2 9))) (hQ : ct 0 18 ≤ 0 → Q (.inl (some (vI w))) (gM (aup (aup ct 0 16 (ct 0 18)) 0 2 0))) : AMet md_X7_taken 2 0 0 [vR 0, vI w] (gM ct) Q := by
  refine AMet.go (L := [some (vR 0), some (vI w)]) mok_X7_taken (Nat.le_of_ble_eq_true rfl) rfl ?_
  refine aw_aload_n dX7_taken_0 rfl ?_
  refine gm_142 rfl dX7_taken_1 dX7_taken_2 rfl ?_
  refine p_X7_37_7 rfl dX7_taken_5 m_ob ?_
  refine gm_142 rfl dX7_taken_8 dX7_taken_9 rfl ?_
  rw [aup_n (by decide)]
  refine aw_ifle (tgt := 24) dX7_taken_12 (by decide) (fun h12 => ?_) (fun h12 => ?_)
  · refine aw_aload_n dX7_taken_24 rfl ?_
    refine aw_iload_n dX7_taken_25 rfl ?_
    refine c_X7_76 rfl dX7_taken_26 m_ob (Nat.le_of_ble_eq_true rfl) (by omega) (C_m_gives ?_)
    refine aK_i ?_
    refine aw_ireturn dX7_taken_29 rfl ?_
    exact hQ (by omega)
  · refine aw_aload_n dX7_taken_15 rfl ?_
    refine aw_bipush dX7_taken_16 (by decide) ?_
    refine c_X7_72 rfl dX7_taken_18 m_ob (Nat.le_of_ble_eq_true rfl) (by omega) (C_m_refuse ?_)
    refine aK_i ?_
    refine aw_goto (tgt := 29) dX7_taken_21 (by decide) ?_
    refine aw_ireturn dX7_taken_29 rfl ?_
    exact hF (by omega)
theorem L_m_beg {ct : Int → Int → Int} {k w : Int} {Q : aPost} {d kc ks : Nat} (hd : 3 ≤ d) (ht : 0 ≤ ct 0 10 ∧ ct 0 10 ≤ 900) (hb : ∀ j, 0 ≤ j → j < 900 → -128 ≤ ct 6 j ∧ ct 6 j < 128) (hz : 0 ≤ k ∧ k ≤ ct 0 10 ∧ k ≤ w) (hQ : ∀ cm1 : Int → Int → Int, (0 ≤ k ∧ k ≤ ct 0 10 ∧ k ≤ w) → RM cm1 (ct 6) k 0 → cm1 0 10 = 0 → cm1 0 17 = -1 → (∀ i, i < 10 ∨ i = 16 ∨ 19 < i → cm1 0 i = ct 0 i) → (∀ b, b ≠ 0 → b ≠ 7 → cm1 b = ct b) → Q (.inl (some (vI 1))) (gM cm1)) : ∀ (r j : Nat) (c1 : Int → Int → Int), (j : Int) + r = k → (∀ i : Int, 0 ≤ i → i < j → c1 7 i = ct 6 i) → c1 0 = upA (ct 0) 11 k → (∀ b, b ≠ 0 → b ≠ 7 → c1 b = ct b) → AW (mq Q) md_X7_begins d kc ks 26 [some (vR 0), some (vI k), some (vI w), some (vI j)] [] (gM c1) := by
  intro r
  induction r with
  | zero =>
    intro j c1 h1 h2 h3 h4
    have ej : (j : Int) = k := by omega
    refine aw_iload_n dX7_begins_26 rfl ?_
    refine aw_iload_n dX7_begins_27 rfl ?_
    refine aw_icmpge (tgt := 49) dX7_begins_28 (by decide) (fun h28 => ?_) (fun h28 => ?_)
    · refine aw_aload_n dX7_begins_49 rfl ?_
      refine aw_iconst dX7_begins_50 (by decide) ?_
      refine p_X7_96_7 rfl dX7_begins_51 m_ob ?_
      refine aw_aload_n dX7_begins_54 rfl ?_
      refine aw_iconst dX7_begins_55 (by decide) ?_
      refine p_X7_142_7 rfl dX7_begins_56 m_ob ?_
      refine aw_aload_n dX7_begins_59 rfl ?_
      refine aw_iconst dX7_begins_60 (by decide) ?_
      refine p_X7_41_7 rfl dX7_begins_61 m_ob ?_
      refine aw_aload_n dX7_begins_64 rfl ?_
      refine aw_iconst dX7_begins_65 (by decide) ?_
      refine p_X7_105_7 rfl dX7_begins_66 m_ob ?_
      refine aw_aload_n dX7_begins_69 rfl ?_
      refine aw_iconst dX7_begins_70 (by decide) ?_
      refine p_X7_145_7 rfl dX7_begins_71 m_ob ?_
      have HS : RMs (aup (aup (aup (aup (aup c1 0 10 0) 0 18 0) 0 17 (-1)) 0 14 0) 0 19 0) (ct 6) k := ⟨⟨hz.1, by omega⟩, by rw [aup_n (by decide), aup_n (by decide), aup_n (by decide), aup_n (by decide), aup_n (by decide), h3, upA_s], fun j9 j0 j1 => by
        rw [aup_rn (by decide), aup_rn (by decide), aup_rn (by decide), aup_rn (by decide), aup_rn (by decide)]
        exact ⟨h2 j9 j0 (by omega), hb j9 j0 (by omega)⟩, by rw [aup_n (by decide), aup_n (by decide), aup_n (by decide), aup_s]⟩
      refine aw_aload_n dX7_begins_74 rfl ?_
      refine c_X7_148 rfl dX7_begins_75 m_ob (Nat.le_of_ble_eq_true rfl) (by omega) (C_m_ahead HS ⟨Int.le_refl 0, hz.1⟩ (by rw [aup_n (by decide), aup_s]) (fun cm2 H2 f2 => ?_))
      refine aK_v ?_
      refine aw_iconst dX7_begins_78 (by decide) ?_
      refine aw_zreturn dX7_begins_79 rfl (Or.inr rfl) ?_
      refine hQ cm2 hz H2 (by rw [f2.1 10 (by decide), aup_n (by decide), aup_n (by decide), aup_n (by decide), aup_n (by decide), aup_s]) (by rw [f2.1 17 (by decide), aup_n (by decide), aup_n (by decide), aup_s]) (fun i hi => ?_) (fun b b0 b7 => ?_)
      · rw [f2.1 i (by omega), aup_n (by omega), aup_n (by omega), aup_n (by omega), aup_n (by omega), aup_n (by omega), h3, upA_n (by omega)]
      · rw [f2.2 b b0, aup_rn b0, aup_rn b0, aup_rn b0, aup_rn b0, aup_rn b0]; exact h4 b b0 b7
    · exfalso; omega
  | succ r ih =>
    intro j c1 h1 h2 h3 h4
    have hbj := hb j (by omega) (by omega)
    refine aw_iload_n dX7_begins_26 rfl ?_
    refine aw_iload_n dX7_begins_27 rfl ?_
    refine aw_icmpge (tgt := 49) dX7_begins_28 (by decide) (fun h28 => ?_) (fun h28 => ?_)
    · exfalso; omega
    · refine gm_34 rfl dX7_begins_31 dX7_begins_32 rfl ?_
      refine aw_iload_n dX7_begins_35 rfl ?_
      refine gm_30 rfl dX7_begins_36 dX7_begins_37 rfl ?_
      refine aw_iload_n dX7_begins_40 rfl ?_
      refine aw_baload dX7_begins_41 m_a6 (by omega) (by omega) ?_
      rw [h4 6 (by decide) (by decide)]
      refine aw_bastore dX7_begins_42 m_a7 (by omega) (by omega) ?_
      refine aw_iinc3r dX7_begins_43 (by decide) (by decide) rfl (by omega) ?_
      refine aw_goto (tgt := 26) dX7_begins_46 (by decide) ?_
      refine ih (j + 1) _ (by omega) (fun i i0 i1 => ?_) (by rw [aup_rn (by decide)]; exact h3) (fun b b0 b7 => by rw [aup_rn b7]; exact h4 b b0 b7)
      by_cases z : i = j
      · subst z; exact aup_s.trans (w8_id hbj.1 hbj.2)
      · rw [aup_n (by omega)]; exact h2 i i0 (by omega)
theorem C_m_begins {ct : Int → Int → Int} {k w : Int} {Q : aPost} (ht : 0 ≤ ct 0 10 ∧ ct 0 10 ≤ 900) (hb : ∀ j, 0 ≤ j → j < 900 → -128 ≤ ct 6 j ∧ ct 6 j < 128) (hF : ¬ (0 ≤ k ∧ k ≤ ct 0 10 ∧ k ≤ w) → Q (.inl (some (vI 0))) (gM ct)) (hQ : ∀ cm1 : Int → Int → Int, (0 ≤ k ∧ k ≤ ct 0 10 ∧ k ≤ w) → RM cm1 (ct 6) k 0 → cm1 0 10 = 0 → cm1 0 17 = -1 → (∀ i, i < 10 ∨ i = 16 ∨ 19 < i → cm1 0 i = ct 0 i) → (∀ b, b ≠ 0 → b ≠ 7 → cm1 b = ct b) → Q (.inl (some (vI 1))) (gM cm1)) : AMet md_X7_begins 3 0 0 [vR 0, vI k, vI w] (gM ct) Q := by
  refine AMet.go (L := [some (vR 0), some (vI k), some (vI w), none]) mok_X7_begins (Nat.le_of_ble_eq_true rfl) rfl ?_
  refine aw_iload_n dX7_begins_0 rfl ?_
  refine aw_iflt (tgt := 17) dX7_begins_1 (by decide) (fun h1 => ?_) (fun h1 => ?_)
  · refine aw_iconst dX7_begins_17 (by decide) ?_
    refine aw_zreturn dX7_begins_18 rfl (Or.inl rfl) ?_
    exact hF (by omega)
  · refine aw_iload_n dX7_begins_4 rfl ?_
    refine gm_96 rfl dX7_begins_5 dX7_begins_6 rfl ?_
    refine aw_icmpgt (tgt := 17) dX7_begins_9 (by decide) (fun h9 => ?_) (fun h9 => ?_)
    · refine aw_iconst dX7_begins_17 (by decide) ?_
      refine aw_zreturn dX7_begins_18 rfl (Or.inl rfl) ?_
      exact hF (by omega)
    · refine aw_iload_n dX7_begins_12 rfl ?_
      refine aw_iload_n dX7_begins_13 rfl ?_
      refine aw_icmple (tgt := 19) dX7_begins_14 (by decide) (fun h14 => ?_) (fun h14 => ?_)
      · refine aw_aload_n dX7_begins_19 rfl ?_
        refine aw_iload_n dX7_begins_20 rfl ?_
        refine p_X7_102_7 rfl dX7_begins_21 m_ob ?_
        refine aw_iconst dX7_begins_24 (by decide) ?_
        refine aw_istore3 dX7_begins_25 (by decide) rfl ?_
        exact L_m_beg (by decide) ht hb ⟨by omega, by omega, by omega⟩ hQ k.toNat 0 _ (by omega) (fun i i0 i1 => by omega) aup_r (fun b b0 _ => aup_rn b0)
      · refine aw_iconst dX7_begins_17 (by decide) ?_
        refine aw_zreturn dX7_begins_18 rfl (Or.inl rfl) ?_
        exact hF (by omega)
theorem L_m_yl {cm0 : Int → Int → Int} {tp : Int → Int} {n k9 : Int} {Q : aPost} {d kc ks : Nat} {x3 : Option aV} (hd : 10 ≤ d) (hFk : Fok cm0) : ∀ (r : Nat) (p : Int) (s N : Int → Int) (cm : Int → Int → Int), n - p < r → RM cm tp n p → SM cm s N → YI s → MF cm0 cm → (∀ (k pl : Int) (cm2 : Int → Int → Int), yardP tp n r p s N = .inl (k, pl) → MB cm0 cm2 k pl → AW (mq Q) md_X7_yard d kc ks 45 [some (vR 0), some (vI k9), some (vI 0), x3] [] (gM cm2)) → (∀ (q : Int) (s1 N1 : Int → Int) (cm2 : Int → Int → Int), yardP tp n r p s N = .inr (q, s1, N1) → RM cm2 tp n q → MF cm0 cm2 → SM cm2 s1 N1 → YI s1 → AW (mq Q) md_X7_yard d kc ks 45 [some (vR 0), some (vI k9), some (vI 1), x3] [] (gM cm2)) → AW (mq Q) md_X7_yard d kc ks 26 [some (vR 0), some (vI k9), some (vI 1), x3] [] (gM cm) := by
  intro r
  induction r with
  | zero =>
    intro p s N cm h1 H
    have := H.2.1
    omega
  | succ r ih =>
    intro p s N cm h1 H hS hy hM hF K
    obtain ⟨hS9, hp, e13, e14, e12, e15, e15s⟩ := id H
    have hn := hS9.1
    have hF9 := tF_bd (tp := tp) hp.2
    have hE := tE_bd (tp := tp) hp.2
    have hK9 := tK_bd (tp := tp) (n := n) (p := p)
    have hk4 : (tK tp n p = 0 ∧ cm 0 12 = 0) ∨ (tK tp n p = 1 ∧ cm 0 12 = 2) ∨ (tK tp n p = 2 ∧ cm 0 12 = 3) ∨ (tK tp n p = 3 ∧ cm 0 12 = 4) ∨ (tK tp n p = 4 ∧ cm 0 12 = 1) := by
      rw [e12]
      rcases (by omega : tK tp n p = 0 ∨ tK tp n p = 1 ∨ tK tp n p = 2 ∨ tK tp n p = 3 ∨ tK tp n p = 4) with z | z | z | z | z <;> (rw [z]; decide)
    refine aw_iload_n dX7_yard_26 rfl ?_
    refine aw_ifeq (tgt := 45) dX7_yard_27 (by decide) (fun h27 => ?_) (fun h27 => ?_)
    · exfalso; omega
    · refine gm_117 rfl dX7_yard_30 dX7_yard_31 rfl ?_
      refine aw_ifeq (tgt := 45) dX7_yard_34 (by decide) (fun h34 => ?_) (fun h34 => ?_)
      · exact K p s N cm (if_pos (by omega)) H hM hS hy
      · have hk0 : ¬ tK tp n p = 0 := by omega
        refine aw_aload_n dX7_yard_37 rfl ?_
        refine c_X7_211 rfl dX7_yard_38 m_ob (Nat.le_of_ble_eq_true rfl) (by omega) (C_m_yardPart H (hM.2.2.2.2 hFk) hS hy (fun k pl cm2 e9 hb => ?_) (fun q s1 N1 cm2 e9 hs H2 f2 S2 Y2 => ?_))
        · have eY : yardP tp n (r + 1) p s N = .inl (k, pl) := by
            refine (if_neg hk0).trans ?_
            rcases e9 with e | ⟨q, s1, N1, e, hs, a, b⟩
            · exact bnd_l e
            · rw [bnd_r e, if_neg hs, a, b]
          refine aK_i ?_
          refine aw_istore2 dX7_yard_41 (by decide) rfl ?_
          refine aw_goto (tgt := 26) dX7_yard_42 (by decide) ?_
          refine aw_iload_n dX7_yard_26 rfl ?_
          refine aw_ifeq (tgt := 45) dX7_yard_27 (by decide) (fun h27 => ?_) (fun h27 => ?_)
          · exact hF _ _ _ eY (hM.b hb)
          · exfalso; omega
        · have eY : yardP tp n (r + 1) p s N = yardP tp n r (tE tp n q) s1 N1 := by
            refine (if_neg hk0).trans ?_
            rw [bnd_r e9, if_pos hs]
          rw [eY] at hF K
          have hpq := partP_p hp.2 hy e9
          have hlt := tE_lt (tp := tp) hpq.2 (by omega)
          have hlt2 := tF_bd (tp := tp) hpq.2
          refine aK_i ?_
          refine aw_istore2 dX7_yard_41 (by decide) rfl ?_
          refine aw_goto (tgt := 26) dX7_yard_42 (by decide) ?_
          exact ih _ _ _ _ (by omega) H2 S2 Y2 (hM.trans f2) hF K
theorem L_m_yc1 {ct : Int → Int → Int} {Q : aPost} {d kc ks : Nat} {a1 a2 : Int} (hd : 1 ≤ d)
    (K : ∀ (ct' : Int → Int → Int) (x3 : Option aV), ct' 1 = cpR 4920 0 1230 (ct 1) → (∀ b, b ≠ 1 → ct' b = ct b) → AW (mq Q) md_X7_yard d kc ks 83 [some (vR 0), some (vI a1), some (vI a2), x3] [] (gM ct')) :
    ∀ (r j : Nat) (ct1 : Int → Int → Int), j + r = 1230 → ct1 1 = cpR 4920 0 j (ct 1) → (∀ b, b ≠ 1 → ct1 b = ct b) →
    AW (mq Q) md_X7_yard d kc ks 54 [some (vR 0), some (vI a1), some (vI a2), some (vI j)] [] (gM ct1) := by
  intro r
  induction r with
  | zero =>
    intro j ct1 g1 g2 g3
    have ej : j = 1230 := by omega
    subst ej
    refine aw_iload_n dX7_yard_54 rfl ?_
    refine aw_sipush dX7_yard_55 (by decide) ?_
    refine aw_icmpge (tgt := 83) dX7_yard_58 (by decide) (fun h58 => ?_) (fun h58 => ?_)
    · exact K _ _ g2 g3
    · exfalso; omega
  | succ r ih =>
    intro j ct1 g1 g2 g3
    have ea : ct1 1 (4920 + j) = ct 1 (4920 + j) := by rw [g2]; exact cpR_at (by omega)
    have ec := cpR_put (f := 4920) (t := 0) (n := j) (s := ct 1) (by omega)
    rw [Int.zero_add] at ec
    refine aw_iload_n dX7_yard_54 rfl ?_
    refine aw_sipush dX7_yard_55 (by decide) ?_
    refine aw_icmpge (tgt := 83) dX7_yard_58 (by decide) (fun h58 => ?_) (fun h58 => ?_)
    · exfalso; omega
    · refine gm_7 rfl dX7_yard_61 dX7_yard_62 rfl ?_
      refine aw_iload_n dX7_yard_65 rfl ?_
      refine gm_7 rfl dX7_yard_66 dX7_yard_67 rfl ?_
      refine aw_sipush dX7_yard_70 (by decide) ?_
      refine aw_iload_n dX7_yard_73 rfl ?_
      refine aw_iaddr dX7_yard_74 (by omega) ?_
      refine aw_iaload dX7_yard_75 m_a1 (by omega) (by omega) ?_
      rw [ea]
      refine aw_iastore dX7_yard_76 m_a1 (by omega) (by omega) ?_
      refine aw_iinc3r dX7_yard_77 (by decide) (by decide) rfl (by omega) ?_
      refine aw_goto (tgt := 54) dX7_yard_80 (by decide) ?_
      refine ih (j + 1) _ (by omega) ?_ (fun b b1 => by rw [aup_rn b1]; exact g3 b b1)
      rw [aup_r, g2, Int.natCast_add, Int.natCast_one]
      exact ec
theorem L_m_yc2 {ct : Int → Int → Int} {Q : aPost} {d kc ks : Nat} {a1 a2 : Int} (hd : 1 ≤ d)
    (K : ∀ (ct' : Int → Int → Int) (x3 : Option aV), ct' 2 = cpR 80 0 20 (ct 2) → (∀ b, b ≠ 2 → ct' b = ct b) → AW (mq Q) md_X7_yard d kc ks 112 [some (vR 0), some (vI a1), some (vI a2), x3] [] (gM ct')) :
    ∀ (r j : Nat) (ct1 : Int → Int → Int), j + r = 20 → ct1 2 = cpR 80 0 j (ct 2) → (∀ b, b ≠ 2 → ct1 b = ct b) →
    AW (mq Q) md_X7_yard d kc ks 85 [some (vR 0), some (vI a1), some (vI a2), some (vI j)] [] (gM ct1) := by
  intro r
  induction r with
  | zero =>
    intro j ct1 g1 g2 g3
    have ej : j = 20 := by omega
    subst ej
    refine aw_iload_n dX7_yard_85 rfl ?_
    refine aw_bipush dX7_yard_86 (by decide) ?_
    refine aw_icmpge (tgt := 112) dX7_yard_88 (by decide) (fun h88 => ?_) (fun h88 => ?_)
    · exact K _ _ g2 g3
    · exfalso; omega
  | succ r ih =>
    intro j ct1 g1 g2 g3
    have ea : ct1 2 (80 + j) = ct 2 (80 + j) := by rw [g2]; exact cpR_at (by omega)
    have ec := cpR_put (f := 80) (t := 0) (n := j) (s := ct 2) (by omega)
    rw [Int.zero_add] at ec
    refine aw_iload_n dX7_yard_85 rfl ?_
    refine aw_bipush dX7_yard_86 (by decide) ?_
    refine aw_icmpge (tgt := 112) dX7_yard_88 (by decide) (fun h88 => ?_) (fun h88 => ?_)
    · exfalso; omega
    · refine gm_13 rfl dX7_yard_91 dX7_yard_92 rfl ?_
      refine aw_iload_n dX7_yard_95 rfl ?_
      refine gm_13 rfl dX7_yard_96 dX7_yard_97 rfl ?_
      refine aw_bipush dX7_yard_100 (by decide) ?_
      refine aw_iload_n dX7_yard_102 rfl ?_
      refine aw_iaddr dX7_yard_103 (by omega) ?_
      refine aw_laload dX7_yard_104 m_a2 (by omega) (by omega) ?_
      rw [ea]
      refine aw_lastore dX7_yard_105 m_a2 (by omega) (by omega) ?_
      refine aw_iinc3r dX7_yard_106 (by decide) (by decide) rfl (by omega) ?_
      refine aw_goto (tgt := 85) dX7_yard_109 (by decide) ?_
      refine ih (j + 1) _ (by omega) ?_ (fun b b1 => by rw [aup_rn b1]; exact g3 b b1)
      rw [aup_r, g2, Int.natCast_add, Int.natCast_one]
      exact ec
/-- what a text that was read leaves alone -/
def YF (cm cm' : Int → Int → Int) : Prop := (∀ i, i ≠ 2 ∧ i < 10 ∨ 24 < i → cm' 0 i = cm 0 i) ∧ (∀ b, b = 3 ∨ b = 4 ∨ b = 5 ∨ b = 6 ∨ 10 ≤ b → cm' b = cm b) ∧ (∀ i, 1230 ≤ i → i < 4920 → cm' 1 i = cm 1 i) ∧ (∀ i, 20 ≤ i → i < 80 → cm' 2 i = cm 2 i) ∧ Fok cm' ∧ cm' 0 10 = 0
theorem C_m_yard {ct : Int → Int → Int} {k : Int} {Q : aPost} (ht : 0 ≤ ct 0 10 ∧ ct 0 10 ≤ 900) (hb : ∀ j, 0 ≤ j → j < 900 → -128 ≤ ct 6 j ∧ ct 6 j < 128) (hFk : Fok ct) (hN : ¬ (0 ≤ k ∧ k ≤ ct 0 10 ∧ k ≤ 900) → Q (.inl (some (vI (-1)))) (gM (aup ct 0 2 1)))
    (hF : ∀ (kd pl : Int) (cm1 : Int → Int → Int), (0 ≤ k ∧ k ≤ ct 0 10 ∧ k ≤ 900) → yardP (ct 6) k (k.toNat + 1) 0 row0 (fun _ => 0) = .inl (kd, pl) → YF ct cm1 → (∀ i, i < 1230 → cm1 1 i = ct 1 i) → (∀ i, i < 20 → cm1 2 i = ct 2 i) → cm1 0 2 = 9 → cm1 0 16 = kd → cm1 0 17 = pl → Q (.inl (some (vI (-1)))) (gM cm1))
    (hQ : ∀ (q : Int) (s1 N1 : Int → Int) (cm1 : Int → Int → Int), (0 ≤ k ∧ k ≤ ct 0 10 ∧ k ≤ 900) → yardP (ct 6) k (k.toNat + 1) 0 row0 (fun _ => 0) = .inr (q, s1, N1) → YI s1 → YF ct cm1 → (∀ i, 0 ≤ i → i < 860 → cm1 1 i = s1 i) → NRl N1 (cm1 2) s1 → cm1 0 2 = 0 → cm1 0 16 = 0 → cm1 0 17 = -1 → Q (.inl (some (vI (s1 0)))) (gM cm1)) : AMet md_X7_yard 10 0 0 [vR 0, vI k] (gM ct) Q := by
  refine AMet.go (L := [some (vR 0), some (vI k), none, none]) mok_X7_yard (Nat.le_of_ble_eq_true rfl) rfl ?_
  refine aw_aload_n dX7_yard_0 rfl ?_
  refine aw_iload_n dX7_yard_1 rfl ?_
  refine aw_sipush dX7_yard_2 (by decide) ?_
  refine c_X7_207 rfl dX7_yard_5 m_ob (Nat.le_of_ble_eq_true rfl) (by omega) (C_m_begins (w := 900) ht hb (fun hz => ?_) (fun cm1 hz H1 t10 t17 t0 tb => ?_))
  · refine aK_i ?_
    refine aw_ifne (tgt := 17) dX7_yard_8 (by decide) (fun h => absurd h (by decide)) (fun _ => ?_)
    refine aw_aload_n dX7_yard_11 rfl ?_
    refine aw_iconst dX7_yard_12 (by decide) ?_
    refine c_X7_72 rfl dX7_yard_13 m_ob (Nat.le_of_ble_eq_true rfl) (by omega) (C_m_refuse ?_)
    refine aK_i ?_
    refine aw_ireturn dX7_yard_16 rfl ?_
    exact hN hz
  · refine aK_i ?_
    refine aw_ifne (tgt := 17) dX7_yard_8 (by decide) (fun _ => ?_) (fun h => absurd h (by decide))
    refine aw_aload_n dX7_yard_17 rfl ?_
    refine aw_sipush dX7_yard_18 (by decide) ?_
    refine c_X7_62 rfl dX7_yard_21 m_ob (Nat.le_of_ble_eq_true rfl) (by omega) (C_m_plain (t := 4920) (by decide) (fun cm2 p1 p0 pb => ?_))
    refine aK_v ?_
    refine aw_iconst dX7_yard_24 (by decide) ?_
    refine aw_istore2 dX7_yard_25 (by decide) rfl ?_
    have H2 : RM cm2 (ct 6) k 0 := H1.fr (fun i _ => by rw [pb 0 (by decide)]) (pb 7 (by decide))
    have r00 : row0 0 = 0 := if_neg (by decide)
    have r01 : row0 1 = 0 := if_neg (by decide)
    have r02 : row0 2 = 0 := if_neg (by decide)
    have S2 : SM cm2 row0 (fun _ => 0) := ⟨fun i i0 i1 => p1 i i0 (by omega), fun k k0 k1 => by omega, fun k k0 k1 => by omega, fun k k0 k1 => by omega⟩
    have hFk2 : Fok cm2 := hFk.eq (by rw [pb 0 (by decide)]; exact t0 24 (by decide)) (by rw [pb 9 (by decide)]; exact tb 9 (by decide) (by decide))
    have g0 : ∀ i, i < 10 ∨ i = 16 ∨ 19 < i → cm2 0 i = ct 0 i := fun i hi => by rw [pb 0 (by decide)]; exact t0 i hi
    have gb : ∀ b, b ≠ 0 → b ≠ 1 → b ≠ 7 → cm2 b = ct b := fun b b0 b1 b7 => by rw [pb b b1]; exact tb b b0 b7
    have g1 : ∀ i, i < 4920 → cm2 1 i = ct 1 i := fun i hi => by rw [p0 i (Or.inl hi), tb 1 (by decide) (by decide)]
    have g10 : cm2 0 10 = 0 := by rw [pb 0 (by decide)]; exact t10
    have g17 : cm2 0 17 = -1 := by rw [pb 0 (by decide)]; exact t17
    refine L_m_yl (x3 := none) (by decide) hFk2 (k.toNat + 1) 0 row0 (fun _ => 0) cm2 (by omega) H2 S2 row0_YI MF.rf (fun kd pl cm3 e9 hb3 => ?_) (fun q s1 N1 cm3 e9 H3 f3 S3 Y3 => ?_)
    · have hb4 := hb3.2.2.2
      have m3 := hb3.1
      refine gm_142 rfl dX7_yard_45 dX7_yard_46 rfl ?_
      rw [hb3.2.1]
      refine aw_ifne (tgt := 112) dX7_yard_49 (by decide) (fun h49 => ?_) (fun h49 => ?_)
      · refine aw_aload_n dX7_yard_112 rfl ?_
        refine gm_7 rfl dX7_yard_113 dX7_yard_114 rfl ?_
        refine aw_iconst dX7_yard_117 (by decide) ?_
        refine aw_iaload dX7_yard_118 m_a1 (by omega) (by omega) ?_
        refine c_X7_214 rfl dX7_yard_119 m_ob (Nat.le_of_ble_eq_true rfl) (by omega) (C_m_taken (fun hz2 => ?_) (fun hz2 => ?_))
        · refine aK_i ?_
          refine aw_ireturn dX7_yard_122 rfl ?_
          refine hF kd pl _ hz e9 ⟨fun i hi => ?_, fun b hb5 => ?_, fun i i0 i1 => ?_, fun i i0 i1 => ?_, ?_, ?_⟩ (fun i hi => ?_) (fun i hi => ?_) aup_s ?_ ?_
          · rw [aup_n (by omega), aup_n (by omega), m3.1 i (by omega), g0 i (by omega)]
          · rw [aup_rn (by omega), aup_rn (by omega), m3.2.1 b (by omega), gb b (by omega) (by omega) (by omega)]
          · rw [aup_rn (by decide), aup_rn (by decide), m3.2.2.1 i (by omega), g1 i i1]
          · rw [aup_rn (by decide), aup_rn (by decide), m3.2.2.2.1 i (by omega), gb 2 (by decide) (by decide) (by decide)]
          · exact (m3.2.2.2.2 hFk2).eq (by rw [aup_n (by decide), aup_n (by decide)]) (by rw [aup_rn (by decide), aup_rn (by decide)])
          · rw [aup_n (by decide), aup_n (by decide), m3.1 10 (by omega), g10]
          · rw [aup_rn (by decide), aup_rn (by decide), m3.2.2.1 i (by omega), g1 i (by omega)]
          · rw [aup_rn (by decide), aup_rn (by decide), m3.2.2.2.1 i (by omega), gb 2 (by decide) (by decide) (by decide)]
          · rw [aup_n (by decide), aup_s]; exact hb3.2.1
          · rw [aup_n (by decide), aup_n (by decide)]; exact hb3.2.2.1
        · exfalso; have := hb3.2.1; omega
      · exfalso; omega
    · have h18 : cm3 0 18 = 0 := H3.1.2.2.2
      refine gm_142 rfl dX7_yard_45 dX7_yard_46 rfl ?_
      rw [h18]
      refine aw_ifne (tgt := 112) dX7_yard_49 (by decide) (fun h49 => ?_) (fun h49 => ?_)
      · exfalso; omega
      · refine aw_iconst dX7_yard_52 (by decide) ?_
        refine aw_istore3 dX7_yard_53 (by decide) rfl ?_
        refine L_m_yc1 (ct := cm3) (by decide) (fun cm4 x3 q1 qb => ?_) 1230 0 cm3 (by omega) cpR_0.symm (fun _ _ => rfl)
        refine aw_iconst dX7_yard_83 (by decide) ?_
        refine aw_istore3 dX7_yard_84 (by decide) rfl ?_
        refine L_m_yc2 (ct := cm4) (by decide) (fun cm5 x3 w2 wb => ?_) 20 0 cm4 (by omega) cpR_0.symm (fun _ _ => rfl)
        have c1 : cm5 1 = cpR 4920 0 1230 (cm3 1) := by rw [wb 1 (by decide), q1]
        have c2 : cm5 2 = cpR 80 0 20 (cm3 2) := by rw [w2, qb 2 (by decide)]
        have cb : ∀ b, b ≠ 1 → b ≠ 2 → cm5 b = cm3 b := fun b b1 b2 => by rw [wb b b2, qb b b1]
        have d1 : ∀ i, 0 ≤ i → i < 1230 → cm5 1 i = cm3 1 (4920 + i) := fun i i0 i1 => by rw [c1]; unfold cpR; rw [if_pos (by omega), Int.sub_zero]
        have d2 : ∀ i, 0 ≤ i → i < 20 → cm5 2 i = cm3 2 (80 + i) := fun i i0 i1 => by rw [c2]; unfold cpR; rw [if_pos (by omega), Int.sub_zero]
        have ee : cm5 1 0 = s1 0 := by rw [d1 0 (by decide) (by decide)]; exact S3.1 0 (by decide) (by decide)
        have PQ3 := Y3.1.2.2.2.1.1
        have P3 := Y3.1.1
        have z18 : cm5 0 18 = 0 := by rw [cb 0 (by decide) (by decide)]; exact h18
        refine aw_aload_n dX7_yard_112 rfl ?_
        refine gm_7 rfl dX7_yard_113 dX7_yard_114 rfl ?_
        refine aw_iconst dX7_yard_117 (by decide) ?_
        refine aw_iaload dX7_yard_118 m_a1 (by omega) (by omega) ?_
        rw [ee]
        refine c_X7_214 rfl dX7_yard_119 m_ob (Nat.le_of_ble_eq_true rfl) (by omega) (C_m_taken (fun hz2 => ?_) (fun hz2 => ?_))
        · exfalso; omega
        · refine aK_i ?_
          refine aw_ireturn dX7_yard_122 rfl ?_
          refine hQ q s1 N1 _ hz e9 Y3 ⟨fun i hi => ?_, fun b hb5 => ?_, fun i i0 i1 => ?_, fun i i0 i1 => ?_, ?_, ?_⟩ (fun i i0 i1 => ?_) ?_ aup_s ?_ ?_
          · rw [aup_n (by omega), aup_n (by omega), cb 0 (by decide) (by decide), f3.1 i (by omega), g0 i (by omega)]
          · rw [aup_rn (by omega), aup_rn (by omega), cb b (by omega) (by omega), f3.2.1 b (by omega), gb b (by omega) (by omega) (by omega)]
          · rw [aup_rn (by decide), aup_rn (by decide), c1]
            unfold cpR
            rw [if_neg (by omega), f3.2.2.1 i (by omega), g1 i i1]
          · rw [aup_rn (by decide), aup_rn (by decide), c2]
            unfold cpR
            rw [if_neg (by omega), f3.2.2.2.1 i (by omega), gb 2 (by decide) (by decide) (by decide)]
          · exact (f3.2.2.2.2 hFk2).eq (by rw [aup_n (by decide), aup_n (by decide), cb 0 (by decide) (by decide)]) (by rw [aup_rn (by decide), aup_rn (by decide), cb 9 (by decide) (by decide)])
          · rw [aup_n (by decide), aup_n (by decide), cb 0 (by decide) (by decide), f3.1 10 (by omega), g10]
          · rw [aup_rn (by decide), aup_rn (by decide), d1 i i0 (by omega)]; exact S3.1 i i0 i1
          · rw [aup_rn (by decide), aup_rn (by decide)]
            exact ⟨fun k k0 k1 => by rw [d2 _ (by omega) (by omega)]; exact S3.2.1 k k0 k1, fun k k0 k1 => by rw [d2 _ (by omega) (by omega)]; exact S3.2.2.1 k k0 k1, fun k k0 k1 => by rw [d2 _ (by omega) (by omega)]; exact S3.2.2.2 k k0 k1⟩
          · rw [aup_n (by decide), aup_s]; exact z18
          · rw [aup_n (by decide), aup_n (by decide), cb 0 (by decide) (by decide), f3.1 17 (by omega), g17]
