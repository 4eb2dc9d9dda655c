set_option maxRecDepth 100000
/-! BeeYardModel reads: words, numbers, names, 2 -/
theorem L_m_iw {cm : Int → Int → Int} {tp : Int → Int} {n p : Int} {R : Int} {Q : aPost} {d kc ks : Nat} (hd : 5 ≤ d) (H : RM cm tp n p) (hQ : Q (.inl (some (vI R))) (gM cm)) : ∀ (r i : Nat) (x4 x5 x6 : Option aV), i + r = 23 → wF tp (tF tp n p) (tE tp n p) r i = R → AW (mq Q) md_X7_inWords d kc ks 14 [some (vR 0), some (vR (-2 - ((23 : Nat) : Int))), some (vI i), some (vI (if i = 23 then slen 23 else ((kst i : Nat) : Int))), x4, x5, x6] [] (gM cm) := by
  obtain ⟨hS, hp, e13, e14, e12, e15, e15s⟩ := id H
  have hn := hS.1
  have hF := tF_bd (tp := tp) hp.2
  have hE := tE_bd (tp := tp) hp.2
  have hK := tK_bd (tp := tp) (n := n) (p := p)
  have hk4 : (tK tp n p = 0 ∧ cm 0 12 = 0) ∨ (tK tp n p = 1 ∧ cm 0 12 = 2) ∨ (tK tp n p = 2 ∧ cm 0 12 = 3) ∨ (tK tp n p = 3 ∧ cm 0 12 = 4) ∨ (tK tp n p = 4 ∧ cm 0 12 = 1) := by
    rw [e12]
    rcases (by omega : tK tp n p = 0 ∨ tK tp n p = 1 ∨ tK tp n p = 2 ∨ tK tp n p = 3 ∨ tK tp n p = 4) with z | z | z | z | z <;> (rw [z]; decide)
  have hl23 : slen 23 = ((awSL.getD 23 0 : Nat) : Int) := rfl
  have hb23 := slen_bd 23 (by decide)
  have hst : ∀ i, i < 23 → kst i + awSL.getD (kx i) 0 < awSL.getD 23 0 := by decide
  intro r
  induction r with
  | zero =>
    intro i x4 x5 x6 h1 h2
    have ei : i = 23 := by omega
    subst ei
    rw [if_pos rfl]
    have h2 : -1 = R := h2
    refine aw_iload_n dX7_inWords_14 rfl ?_
    refine aw_aload_n dX7_inWords_15 rfl ?_
    refine s_X7_len (k := 23) (by decide) rfl dX7_inWords_16 (Nat.le_of_ble_eq_true rfl) (by omega) ?_
    refine aw_icmpge (tgt := 133) dX7_inWords_19 (by decide) (fun h19 => ?_) (fun h19 => ?_)
    · refine aw_iconst dX7_inWords_133 (by decide) ?_
      refine aw_ireturn dX7_inWords_134 rfl ?_
      rw [h2]
      exact hQ
    · exfalso; omega
  | succ r ih =>
    intro i x4 x5 x6 h1 h2
    have hi : i < 23 := by omega
    have hs := hst i hi
    rw [if_neg (by omega)]
    have hlx : slen (kx i) = ((awSL.getD (kx i) 0 : Nat) : Int) := rfl
    have hln := kln (kx i) (by have := kxi i hi; omega)
    have hnext : (if i + 1 = 23 then slen 23 else ((kst (i + 1) : Nat) : Int)) = kst i + slen (kx i) + 1 := by
      by_cases z : i + 1 = 23
      · rw [if_pos z]
        have e22 : i = 22 := by omega
        subst e22
        have := kend
        omega
      · rw [if_neg z]
        have := knx i (by omega)
        omega
    have KY115 : wq tp (tF tp n p) (tE tp n p) (kx i) → ∀ t : Int, AW (mq Q) md_X7_inWords d kc ks 115 [some (vR 0), some (vR (-2 - ((23 : Nat) : Int))), some (vI i), some (vI (kst i)), some (vI (kst i + slen (kx i))), some (vI 1), some (vI (kst i + t))] [] (gM cm) := fun hw t => by
      rw [wF_y hw] at h2
      refine aw_iload dX7_inWords_115 rfl ?_
      refine aw_ifeq (tgt := 122) dX7_inWords_117 (by decide) (fun h117 => ?_) (fun h117 => ?_)
      · exfalso; omega
      · refine aw_iload_n dX7_inWords_120 rfl ?_
        refine aw_ireturn dX7_inWords_121 rfl ?_
        rw [h2]
        exact hQ
    have KN115 : ¬ wq tp (tF tp n p) (tE tp n p) (kx i) → ∀ (t : Int), AW (mq Q) md_X7_inWords d kc ks 115 [some (vR 0), some (vR (-2 - ((23 : Nat) : Int))), some (vI i), some (vI (kst i)), some (vI (kst i + slen (kx i))), some (vI 0), some (vI (kst i + t))] [] (gM cm) := fun hw t => by
      rw [wF_n hw] at h2
      refine aw_iload dX7_inWords_115 rfl ?_
      refine aw_ifeq (tgt := 122) dX7_inWords_117 (by decide) (fun h117 => ?_) (fun h117 => ?_)
      · refine aw_iinc2r dX7_inWords_122 (by decide) (by decide) rfl (by omega) ?_
        refine aw_iload dX7_inWords_125 rfl ?_
        refine aw_iconst dX7_inWords_127 (by decide) ?_
        refine aw_iaddr dX7_inWords_128 (by omega) ?_
        refine aw_istore3 dX7_inWords_129 (by decide) rfl ?_
        refine aw_goto (tgt := 14) dX7_inWords_130 (by decide) ?_
        have h9 := ih (i + 1) (some (vI (kst i + slen (kx i)))) (some (vI 0)) (some (vI (kst i + t))) (by omega) h2
        rw [hnext] at h9
        exact h9
      · exfalso; omega
    refine aw_iload_n dX7_inWords_14 rfl ?_
    refine aw_aload_n dX7_inWords_15 rfl ?_
    refine s_X7_len (k := 23) (by decide) rfl dX7_inWords_16 (Nat.le_of_ble_eq_true rfl) (by omega) ?_
    refine aw_icmpge (tgt := 133) dX7_inWords_19 (by decide) (fun h19 => ?_) (fun h19 => ?_)
    · exfalso; omega
    · refine aw_iload_n dX7_inWords_22 rfl ?_
      refine aw_istore4 dX7_inWords_23 (by decide) rfl ?_
      have h0 := L_m_iw1 (cm := cm) (n := n) (p := p) (tp := tp) (i := i) (Q := Q) (d := d) (kc := kc) (ks := ks) (x5 := x5) (x6 := x6) hd hi (by
        refine aw_iload dX7_inWords_42 rfl ?_
        refine aw_iload_n dX7_inWords_44 rfl ?_
        refine aw_isubr dX7_inWords_45 (by omega) ?_
        refine gm_105 rfl dX7_inWords_46 dX7_inWords_47 rfl ?_
        rw [e14]
        refine gm_111 rfl dX7_inWords_50 dX7_inWords_51 rfl ?_
        rw [e13]
        refine aw_isubr dX7_inWords_54 (by omega) ?_
        refine aw_icmpne (tgt := 62) dX7_inWords_55 (by decide) (fun h55 => ?_) (fun h55 => ?_)
        · refine aw_iconst dX7_inWords_62 (by decide) ?_
          refine aw_istore5 dX7_inWords_63 (by decide) rfl ?_
          refine aw_iload_n dX7_inWords_65 rfl ?_
          refine aw_istore6 dX7_inWords_66 (by decide) rfl ?_
          first
            | (have h9 := L_m_iw2 hd H hi (by omega) KY115 KN115 (slen (kx i)).toNat 0 (by omega) (by decide) (fun j j0 j1 => by omega)
               rw [Int.add_zero] at h9
               exact h9)
            | (have h9 := KN115 (fun z => by have := z.1; omega) 0
               rw [Int.add_zero] at h9
               refine aw_iload dX7_inWords_68 rfl ?_
               refine aw_iload dX7_inWords_70 rfl ?_
               refine aw_icmpge (tgt := 115) dX7_inWords_72 (by decide) (fun h72 => ?_) (fun h72 => ?_)
               · exfalso; omega
               · refine aw_iload dX7_inWords_75 rfl ?_
                 refine aw_ifeq (tgt := 115) dX7_inWords_77 (by decide) (fun h77 => ?_) (fun h77 => ?_)
                 · exact h9
                 · exfalso; omega)
        · refine aw_iconst dX7_inWords_58 (by decide) ?_
          refine aw_goto (tgt := 63) dX7_inWords_59 (by decide) ?_
          refine aw_istore5 dX7_inWords_63 (by decide) rfl ?_
          refine aw_iload_n dX7_inWords_65 rfl ?_
          refine aw_istore6 dX7_inWords_66 (by decide) rfl ?_
          first
            | (have h9 := L_m_iw2 hd H hi (by omega) KY115 KN115 (slen (kx i)).toNat 0 (by omega) (by decide) (fun j j0 j1 => by omega)
               rw [Int.add_zero] at h9
               exact h9)
            | (have h9 := KN115 (fun z => by have := z.1; omega) 0
               rw [Int.add_zero] at h9
               refine aw_iload dX7_inWords_68 rfl ?_
               refine aw_iload dX7_inWords_70 rfl ?_
               refine aw_icmpge (tgt := 115) dX7_inWords_72 (by decide) (fun h72 => ?_) (fun h72 => ?_)
               · exfalso; omega
               · refine aw_iload dX7_inWords_75 rfl ?_
                 refine aw_ifeq (tgt := 115) dX7_inWords_77 (by decide) (fun h77 => ?_) (fun h77 => ?_)
                 · exact h9
                 · exfalso; omega)) (slen (kx i)).toNat 0 (by omega) (by decide)
      rw [Int.add_zero] at h0
      exact h0
theorem C_m_inWords {cm : Int → Int → Int} {tp : Int → Int} {n p : Int} {Q : aPost} (H : RM cm tp n p) (hQ : Q (.inl (some (vI (tW tp n p)))) (gM cm)) : AMet md_X7_inWords 5 0 0 [vR 0, vR (-2 - ((23 : Nat) : Int))] (gM cm) Q := by
  refine AMet.go (L := [some (vR 0), some (vR (-2 - ((23 : Nat) : Int))), none, none, none, none, none]) mok_X7_inWords (Nat.le_of_ble_eq_true rfl) rfl ?_
  obtain ⟨hS, hp, e13, e14, e12, e15, e15s⟩ := id H
  have hn := hS.1
  have hF := tF_bd (tp := tp) hp.2
  have hE := tE_bd (tp := tp) hp.2
  have hK := tK_bd (tp := tp) (n := n) (p := p)
  have hk4 : (tK tp n p = 0 ∧ cm 0 12 = 0) ∨ (tK tp n p = 1 ∧ cm 0 12 = 2) ∨ (tK tp n p = 2 ∧ cm 0 12 = 3) ∨ (tK tp n p = 3 ∧ cm 0 12 = 4) ∨ (tK tp n p = 4 ∧ cm 0 12 = 1) := by
    rw [e12]
    rcases (by omega : tK tp n p = 0 ∨ tK tp n p = 1 ∨ tK tp n p = 2 ∨ tK tp n p = 3 ∨ tK tp n p = 4) with z | z | z | z | z <;> (rw [z]; decide)
  refine gm_117 rfl dX7_inWords_0 dX7_inWords_1 rfl ?_
  refine aw_iconst dX7_inWords_4 (by decide) ?_
  refine aw_icmpeq (tgt := 10) dX7_inWords_5 (by decide) (fun h5 => ?_) (fun h5 => ?_)
  · refine aw_iconst dX7_inWords_10 (by decide) ?_
    refine aw_istore2 dX7_inWords_11 (by decide) rfl ?_
    refine aw_iconst dX7_inWords_12 (by decide) ?_
    refine aw_istore3 dX7_inWords_13 (by decide) rfl ?_
    have h9 := L_m_iw (R := tW tp n p) (d := 5) (kc := 0) (ks := 0) (by decide) H hQ 23 0 none none none (by decide) (tW_y (by omega)).symm
    exact h9
  · refine aw_iconst dX7_inWords_8 (by decide) ?_
    refine aw_ireturn dX7_inWords_9 rfl ?_
    rw [tW_n (by omega)] at hQ
    exact hQ
theorem C_m_wantSign {cm : Int → Int → Int} {tp : Int → Int} {n p : Int} {c : Int} {Q : aPost} (H : RM cm tp n p) (hF : ∀ cm1 : Int → Int → Int, ¬ sgn tp n p c → MB cm cm1 (wr tp n p) (tF tp n p) → Q (.inl (some (vI 0))) (gM cm1)) (hQ : ∀ cm1 : Int → Int → Int, sgn tp n p c → RM cm1 tp n (tE tp n p) → M0 cm cm1 → Q (.inl (some (vI 1))) (gM cm1)) : AMet md_X7_wantSign 3 0 0 [vR 0, vI c] (gM cm) Q := by
  refine AMet.go (L := [some (vR 0), some (vI c)]) mok_X7_wantSign (Nat.le_of_ble_eq_true rfl) rfl ?_
  refine aw_aload_n dX7_wantSign_0 rfl ?_
  refine aw_iload_n dX7_wantSign_1 rfl ?_
  refine c_X7_151 rfl dX7_wantSign_2 m_ob (Nat.le_of_ble_eq_true rfl) (by omega) (C_m_isSign H (fun hs => ?_) (fun hs => ?_))
  · refine aK_i ?_
    refine aw_ifne (tgt := 14) dX7_wantSign_5 (by decide) (fun _ => ?_) (fun h => absurd h (by decide))
    refine aw_aload_n dX7_wantSign_14 rfl ?_
    refine c_X7_148 rfl dX7_wantSign_15 m_ob (Nat.le_of_ble_eq_true rfl) (by omega) (C_m_ahead H.1 H.goes.1 H.goes.2 (fun cm1 H1 f1 => ?_))
    refine aK_v ?_
    refine aw_iconst dX7_wantSign_18 (by decide) ?_
    refine aw_zreturn dX7_wantSign_19 rfl (Or.inr rfl) ?_
    exact hQ _ hs H1 f1
  · refine aK_i ?_
    refine aw_ifne (tgt := 14) dX7_wantSign_5 (by decide) (fun h => absurd h (by decide)) (fun _ => ?_)
    refine aw_aload_n dX7_wantSign_8 rfl ?_
    refine aw_iconst dX7_wantSign_9 (by decide) ?_
    refine c_X7_154 rfl dX7_wantSign_10 m_ob (Nat.le_of_ble_eq_true rfl) (by omega) (C_m_fails H (k := 2) (by decide) (fun cm1 hb => ?_))
    refine aK_i ?_
    refine aw_zreturn dX7_wantSign_13 rfl (Or.inl rfl) ?_
    exact hF _ hs hb
theorem C_m_wantWord {cm : Int → Int → Int} {tp : Int → Int} {n p : Int} {w : Int} {Q : aPost} (H : RM cm tp n p) (hF : ∀ cm1 : Int → Int → Int, tW tp n p ≠ w → MB cm cm1 (wr tp n p) (tF tp n p) → Q (.inl (some (vI 0))) (gM cm1)) (hQ : ∀ cm1 : Int → Int → Int, tW tp n p = w → RM cm1 tp n (tE tp n p) → M0 cm cm1 → Q (.inl (some (vI 1))) (gM cm1)) : AMet md_X7_wantWord 6 0 0 [vR 0, vR (-2 - ((23 : Nat) : Int)), vI w] (gM cm) Q := by
  refine AMet.go (L := [some (vR 0), some (vR (-2 - ((23 : Nat) : Int))), some (vI w)]) mok_X7_wantWord (Nat.le_of_ble_eq_true rfl) rfl ?_
  refine aw_aload_n dX7_wantWord_0 rfl ?_
  refine aw_aload_n dX7_wantWord_1 rfl ?_
  refine c_X7_157 rfl dX7_wantWord_2 m_ob (Nat.le_of_ble_eq_true rfl) (by omega) (C_m_inWords H ?_)
  refine aK_i ?_
  refine aw_iload_n dX7_wantWord_5 rfl ?_
  refine aw_icmpeq (tgt := 15) dX7_wantWord_6 (by decide) (fun h6 => ?_) (fun h6 => ?_)
  · refine aw_aload_n dX7_wantWord_15 rfl ?_
    refine c_X7_148 rfl dX7_wantWord_16 m_ob (Nat.le_of_ble_eq_true rfl) (by omega) (C_m_ahead H.1 H.goes.1 H.goes.2 (fun cm1 H1 f1 => ?_))
    refine aK_v ?_
    refine aw_iconst dX7_wantWord_19 (by decide) ?_
    refine aw_zreturn dX7_wantWord_20 rfl (Or.inr rfl) ?_
    exact hQ _ h6 H1 f1
  · refine aw_aload_n dX7_wantWord_9 rfl ?_
    refine aw_iconst dX7_wantWord_10 (by decide) ?_
    refine c_X7_154 rfl dX7_wantWord_11 m_ob (Nat.le_of_ble_eq_true rfl) (by omega) (C_m_fails H (k := 2) (by decide) (fun cm1 hb => ?_))
    refine aK_i ?_
    refine aw_zreturn dX7_wantWord_14 rfl (Or.inl rfl) ?_
    exact hF _ h6 hb
theorem C_m_isThere {cm : Int → Int → Int} {tp : Int → Int} {n p : Int} {w : Int} {Q : aPost} (H : RM cm tp n p) (hN : tW tp n p ≠ w → Q (.inl (some (vI 0))) (gM cm)) (hQ : ∀ cm1 : Int → Int → Int, tW tp n p = w → RM cm1 tp n (tE tp n p) → M0 cm cm1 → Q (.inl (some (vI 1))) (gM cm1)) : AMet md_X7_isThere 6 0 0 [vR 0, vI w] (gM cm) Q := by
  refine AMet.go (L := [some (vR 0), some (vI w)]) mok_X7_isThere (Nat.le_of_ble_eq_true rfl) rfl ?_
  refine aw_aload_n dX7_isThere_0 rfl ?_
  refine aw_ldcS (k9 := 23) dX7_isThere_1 rfl rfl (by decide) ?_
  refine c_X7_157 rfl dX7_isThere_3 m_ob (Nat.le_of_ble_eq_true rfl) (by omega) (C_m_inWords H ?_)
  refine aK_i ?_
  refine aw_iload_n dX7_isThere_6 rfl ?_
  refine aw_icmpeq (tgt := 12) dX7_isThere_7 (by decide) (fun h7 => ?_) (fun h7 => ?_)
  · refine aw_aload_n dX7_isThere_12 rfl ?_
    refine c_X7_148 rfl dX7_isThere_13 m_ob (Nat.le_of_ble_eq_true rfl) (by omega) (C_m_ahead H.1 H.goes.1 H.goes.2 (fun cm1 H1 f1 => ?_))
    refine aK_v ?_
    refine aw_iconst dX7_isThere_16 (by decide) ?_
    refine aw_zreturn dX7_isThere_17 rfl (Or.inr rfl) ?_
    exact hQ _ h7 H1 f1
  · refine aw_iconst dX7_isThere_10 (by decide) ?_
    refine aw_zreturn dX7_isThere_11 rfl (Or.inl rfl) ?_
    exact hN h7
theorem C_m_number {cm : Int → Int → Int} {tp : Int → Int} {n p : Int} {t lo hi : Int} {Q : aPost} (H : RM cm tp n p) (ht : 4920 ≤ t ∧ t < 6150) (hF : ∀ (k pl : Int) (cm1 : Int → Int → Int), numP tp n p lo hi = .inl (k, pl) → MB cm cm1 k pl → Q (.inl (some (vI 0))) (gM cm1)) (hQ : ∀ (v q : Int) (cm1 : Int → Int → Int), numP tp n p lo hi = .inr (v, q) → RM cm1 tp n q → MF cm cm1 → cm1 1 = upA (cm 1) t v → cm1 2 = cm 2 → (∀ i, 19 < i → cm1 0 i = cm 0 i) → cm1 8 = cm 8 → Q (.inl (some (vI 1))) (gM cm1)) : AMet md_X7_number 3 0 0 [vR 0, vI t, vI lo, vI hi] (gM cm) Q := by
  refine AMet.go (L := [some (vR 0), some (vI t), some (vI lo), some (vI hi)]) mok_X7_number (Nat.le_of_ble_eq_true rfl) rfl ?_
  obtain ⟨hS, hp, e13, e14, e12, e15, e15s⟩ := id H
  have hn := hS.1
  have hF9 := tF_bd (tp := tp) hp.2
  have hE := tE_bd (tp := tp) hp.2
  have hK := tK_bd (tp := tp) (n := n) (p := p)
  have hk4 : (tK tp n p = 0 ∧ cm 0 12 = 0) ∨ (tK tp n p = 1 ∧ cm 0 12 = 2) ∨ (tK tp n p = 2 ∧ cm 0 12 = 3) ∨ (tK tp n p = 3 ∧ cm 0 12 = 4) ∨ (tK tp n p = 4 ∧ cm 0 12 = 1) := by
    rw [e12]
    rcases (by omega : tK tp n p = 0 ∨ tK tp n p = 1 ∨ tK tp n p = 2 ∨ tK tp n p = 3 ∨ tK tp n p = 4) with z | z | z | z | z <;> (rw [z]; decide)
  refine gm_117 rfl dX7_number_0 dX7_number_1 rfl ?_
  refine aw_iconst dX7_number_4 (by decide) ?_
  refine aw_icmpeq (tgt := 14) dX7_number_5 (by decide) (fun h5 => ?_) (fun h5 => ?_)
  · refine gm_114 rfl dX7_number_14 dX7_number_15 rfl ?_
    rw [e15 (by omega)]
    refine aw_iload_n dX7_number_18 rfl ?_
    refine aw_icmplt (tgt := 30) dX7_number_19 (by decide) (fun h19 => ?_) (fun h19 => ?_)
    · refine aw_aload_n dX7_number_30 rfl ?_
      refine aw_iconst dX7_number_31 (by decide) ?_
      refine c_X7_154 rfl dX7_number_32 m_ob (Nat.le_of_ble_eq_true rfl) (by omega) (C_m_fails H (k := 4) (by decide) (fun cm1 hb => ?_))
      refine aK_i ?_
      refine aw_zreturn dX7_number_35 rfl (Or.inl rfl) ?_
      rw [if_neg (by omega)] at hb
      exact hF _ _ _ (by unfold numP; rw [if_neg (by omega), if_pos (by omega)]) hb
    · refine gm_114 rfl dX7_number_22 dX7_number_23 rfl ?_
      rw [e15 (by omega)]
      refine aw_iload_n dX7_number_26 rfl ?_
      refine aw_icmple (tgt := 36) dX7_number_27 (by decide) (fun h27 => ?_) (fun h27 => ?_)
      · refine gm_7 rfl dX7_number_36 dX7_number_37 rfl ?_
        refine aw_iload_n dX7_number_40 rfl ?_
        refine gm_114 rfl dX7_number_41 dX7_number_42 rfl ?_
        rw [e15 (by omega)]
        have H0 : RM (aup cm 1 t (tV tp n p)) tp n p := H.up (by decide) (by decide)
        refine aw_iastore dX7_number_45 m_a1 (by omega) (by omega) ?_
        refine aw_aload_n dX7_number_46 rfl ?_
        refine c_X7_148 rfl dX7_number_47 m_ob (Nat.le_of_ble_eq_true rfl) (by omega) (C_m_ahead H0.1 H0.goes.1 H0.goes.2 (fun cm1 H1 f1 => ?_))
        refine aK_v ?_
        refine aw_iconst dX7_number_50 (by decide) ?_
        refine aw_zreturn dX7_number_51 rfl (Or.inr rfl) ?_
        exact hQ _ _ _ (by unfold numP; rw [if_neg (by omega), if_neg (by omega)]) H1 ((MF.rf.up1 ht.1).trans f1.mf) (by rw [f1.2 1 (by decide), aup_r]) (by rw [f1.2 2 (by decide), aup_rn (by decide)]) (fun i hi => by rw [f1.1 i (by omega), aup_rn (by decide)]) (by rw [f1.2 8 (by decide), aup_rn (by decide)])
      · refine aw_aload_n dX7_number_30 rfl ?_
        refine aw_iconst dX7_number_31 (by decide) ?_
        refine c_X7_154 rfl dX7_number_32 m_ob (Nat.le_of_ble_eq_true rfl) (by omega) (C_m_fails H (k := 4) (by decide) (fun cm1 hb => ?_))
        refine aK_i ?_
        refine aw_zreturn dX7_number_35 rfl (Or.inl rfl) ?_
        rw [if_neg (by omega)] at hb
        exact hF _ _ _ (by unfold numP; rw [if_neg (by omega), if_pos (by omega)]) hb
  · refine aw_aload_n dX7_number_8 rfl ?_
    refine aw_iconst dX7_number_9 (by decide) ?_
    refine c_X7_154 rfl dX7_number_10 m_ob (Nat.le_of_ble_eq_true rfl) (by omega) (C_m_fails H (k := 2) (by decide) (fun cm1 hb => ?_))
    refine aK_i ?_
    refine aw_zreturn dX7_number_13 rfl (Or.inl rfl) ?_
    exact hF _ _ _ (by unfold numP; rw [if_pos (by omega)]; rfl) hb
theorem C_m_isName {cm : Int → Int → Int} {tp : Int → Int} {n p : Int} {Q : aPost} (H : RM cm tp n p) (hT : isNm tp n p → Q (.inl (some (vI 1))) (gM cm)) (hN : ¬ isNm tp n p → Q (.inl (some (vI 0))) (gM cm)) : AMet md_X7_isName 6 0 0 [vR 0, vR (-2 - ((23 : Nat) : Int))] (gM cm) Q := by
  refine AMet.go (L := [some (vR 0), some (vR (-2 - ((23 : Nat) : Int)))]) mok_X7_isName (Nat.le_of_ble_eq_true rfl) rfl ?_
  obtain ⟨hS, hp, e13, e14, e12, e15, e15s⟩ := id H
  have hn := hS.1
  have hF := tF_bd (tp := tp) hp.2
  have hE := tE_bd (tp := tp) hp.2
  have hK := tK_bd (tp := tp) (n := n) (p := p)
  have hk4 : (tK tp n p = 0 ∧ cm 0 12 = 0) ∨ (tK tp n p = 1 ∧ cm 0 12 = 2) ∨ (tK tp n p = 2 ∧ cm 0 12 = 3) ∨ (tK tp n p = 3 ∧ cm 0 12 = 4) ∨ (tK tp n p = 4 ∧ cm 0 12 = 1) := by
    rw [e12]
    rcases (by omega : tK tp n p = 0 ∨ tK tp n p = 1 ∨ tK tp n p = 2 ∨ tK tp n p = 3 ∨ tK tp n p = 4) with z | z | z | z | z <;> (rw [z]; decide)
  refine gm_117 rfl dX7_isName_0 dX7_isName_1 rfl ?_
  refine aw_iconst dX7_isName_4 (by decide) ?_
  refine aw_icmpne (tgt := 35) dX7_isName_5 (by decide) (fun h5 => ?_) (fun h5 => ?_)
  · refine aw_iconst dX7_isName_35 (by decide) ?_
    refine aw_zreturn dX7_isName_36 rfl (Or.inl rfl) ?_
    exact hN (by omega)
  · refine gm_105 rfl dX7_isName_8 dX7_isName_9 rfl ?_
    rw [e14]
    refine gm_111 rfl dX7_isName_12 dX7_isName_13 rfl ?_
    rw [e13]
    refine aw_isubr dX7_isName_16 (by omega) ?_
    refine aw_bipush dX7_isName_17 (by decide) ?_
    refine aw_icmpgt (tgt := 35) dX7_isName_19 (by decide) (fun h19 => ?_) (fun h19 => ?_)
    · refine aw_iconst dX7_isName_35 (by decide) ?_
      refine aw_zreturn dX7_isName_36 rfl (Or.inl rfl) ?_
      exact hN (by omega)
    · refine aw_aload_n dX7_isName_22 rfl ?_
      refine aw_aload_n dX7_isName_23 rfl ?_
      refine c_X7_157 rfl dX7_isName_24 m_ob (Nat.le_of_ble_eq_true rfl) (by omega) (C_m_inWords H ?_)
      refine aK_i ?_
      refine aw_iconst dX7_isName_27 (by decide) ?_
      refine aw_icmpne (tgt := 35) dX7_isName_28 (by decide) (fun h28 => ?_) (fun h28 => ?_)
      · refine aw_iconst dX7_isName_35 (by decide) ?_
        refine aw_zreturn dX7_isName_36 rfl (Or.inl rfl) ?_
        exact hN (by omega)
      · refine aw_iconst dX7_isName_31 (by decide) ?_
        refine aw_goto (tgt := 36) dX7_isName_32 (by decide) ?_
        refine aw_zreturn dX7_isName_36 rfl (Or.inr rfl) ?_
        exact hT ⟨by omega, by omega, by omega⟩
theorem l64_of (n : Nat) : Int64.ofInt (n : Int) = Int64.ofNat n := by
  apply Int64.toBitVec_inj.mp
  show BitVec.ofInt 64 (n : Int) = BitVec.ofNat 64 n
  first
    | exact BitVec.ofInt_natCast 64 n
    | simp
theorem l64_in {n : Nat} (h : n < 9223372036854775808) : (Int64.ofNat n).toInt = (n : Int) := by
  rw [← l64_of, Int64.toInt_ofInt]
  show Int.bmod (n : Int) 18446744073709551616 = _
  exact bmod_id (by omega) (by omega)
theorem l64_shl {m : Nat} (h : m < 36028797018963968) : Int64.ofNat m <<< ((Int32.ofInt 8).toInt64 &&& 63) = Int64.ofNat (m * 256) := by
  have e1 : ((Int32.ofInt 8).toInt64 &&& 63) = (8 : Int64) := by decide
  rw [e1]
  apply Int64.toBitVec_inj.mp
  rw [Int64.toBitVec_shiftLeft]
  have e2 : (8 : Int64).toBitVec.smod 64 = BitVec.ofNat 64 8 := by decide
  rw [e2]
  show BitVec.ofNat 64 m <<< BitVec.ofNat 64 8 = BitVec.ofNat 64 (m * 256)
  apply BitVec.eq_of_toNat_eq
  rw [BitVec.shiftLeft_eq', BitVec.toNat_shiftLeft, BitVec.toNat_ofNat, BitVec.toNat_ofNat, BitVec.toNat_ofNat, Nat.mod_eq_of_lt (show 8 < 2 ^ 64 by decide), Nat.shiftLeft_eq, Nat.mod_eq_of_lt (show m < 2 ^ 64 by omega)]
theorem l64_or {m v : Nat} (h : m < 36028797018963968) (hv : v < 256) : Int64.ofNat (m * 256) ||| Int64.ofNat v = Int64.ofNat (m * 256 + v) := by
  have h1 : m * 2 ^ 8 ||| v = m * 2 ^ 8 + v := by rw [← Nat.shiftLeft_eq, Nat.shiftLeft_add_eq_or_of_lt hv]
  apply Int64.toBitVec_inj.mp
  rw [Int64.toBitVec_or]
  show BitVec.ofNat 64 (m * 256) ||| BitVec.ofNat 64 v = BitVec.ofNat 64 (m * 256 + v)
  apply BitVec.eq_of_toNat_eq
  rw [BitVec.toNat_or, BitVec.toNat_ofNat, BitVec.toNat_ofNat, BitVec.toNat_ofNat, Nat.mod_eq_of_lt (show m * 256 < 2 ^ 64 by omega), Nat.mod_eq_of_lt (show v < 2 ^ 64 by omega), Nat.mod_eq_of_lt (show m * 256 + v < 2 ^ 64 by omega)]
  exact h1
theorem nm_step {x v : Int} (h : 0 ≤ x ∧ x < 36028797018963968) (hv : 0 ≤ v ∧ v < 256) : lor64 (lshl64 x 8) v = x * 256 + v := by
  obtain ⟨m, rfl⟩ := Int.nat_of h.1
  obtain ⟨w, rfl⟩ := Int.nat_of hv.1
  have hs : lshl64 (m : Int) 8 = ((m * 256 : Nat) : Int) := by
    unfold lshl64
    rw [l64_of, l64_shl (by omega), l64_in (by omega)]
  rw [hs]
  unfold lor64
  rw [l64_of, l64_of, l64_or (by omega) (by omega), l64_in (by omega)]
  omega
theorem nM_bd8 {tp : Int → Int} {f : Int} {k : Nat} (h : ∀ j : Int, 0 ≤ j → j < k → ltr (tp (f + j))) (hk : k ≤ 7) : 0 ≤ nM tp f k ∧ nM tp f k < 36028797018963968 := by
  cases k with
  | zero => exact ⟨Int.le_refl _, by show (0 : Int) < _; decide⟩
  | succ m =>
    have h4 := nM_bd (tp := tp) (f := f) (k := m) h
    have e : m = 0 ∨ m = 1 ∨ m = 2 ∨ m = 3 ∨ m = 4 ∨ m = 5 ∨ m = 6 := by omega
    rcases e with e | e | e | e | e | e | e <;> (subst e; omega)
theorem L_m_nmh {cm : Int → Int → Int} {tp : Int → Int} {n p : Int} {Q : aPost} {d kc ks : Nat} (hd : 2 ≤ d) (H : RM cm tp n p) (hi : isNm tp n p) (hQ : Q (.inl (some (vL (nmM tp n p)))) (gM cm)) : ∀ (r : Nat) (k : Nat), k + r = (tE tp n p - tF tp n p).toNat → AW (mq Q) md_X7_nameHere d kc ks 7 [some (vR 0), some (vL (nM tp (tF tp n p) k)), none, some (vI (tF tp n p + k))] [] (gM cm) := by
  obtain ⟨hS, hp, e13, e14, e12, e15, e15s⟩ := id H
  have hn := hS.1
  have hF := tF_bd (tp := tp) hp.2
  have hE := tE_bd (tp := tp) hp.2
  have hK := tK_bd (tp := tp) (n := n) (p := p)
  have hk4 : (tK tp n p = 0 ∧ cm 0 12 = 0) ∨ (tK tp n p = 1 ∧ cm 0 12 = 2) ∨ (tK tp n p = 2 ∧ cm 0 12 = 3) ∨ (tK tp n p = 3 ∧ cm 0 12 = 4) ∨ (tK tp n p = 4 ∧ cm 0 12 = 1) := by
    rw [e12]
    rcases (by omega : tK tp n p = 0 ∨ tK tp n p = 1 ∨ tK tp n p = 2 ∨ tK tp n p = 3 ∨ tK tp n p = 4) with z | z | z | z | z <;> (rw [z]; decide)
  have hl := tK_word hi.1
  have hlt := tE_lt hp.2 (by omega : tK tp n p ≠ 0)
  intro r
  induction r with
  | zero =>
    intro k h1
    have ek : k = (tE tp n p - tF tp n p).toNat := by omega
    refine aw_iload_n dX7_nameHere_7 rfl ?_
    refine gm_105 rfl dX7_nameHere_8 dX7_nameHere_9 rfl ?_
    rw [e14]
    refine aw_icmpge (tgt := 33) dX7_nameHere_12 (by decide) (fun h12 => ?_) (fun h12 => ?_)
    · refine aw_lload_n dX7_nameHere_33 rfl ?_
      refine aw_lreturn dX7_nameHere_34 rfl ?_
      unfold nmM at hQ
      rw [ek]
      exact hQ
    · exfalso; omega
  | succ r ih =>
    intro k h1
    have hb := nM_bd8 (tp := tp) (f := tF tp n p) (k := k) (fun j j0 j1 => hl _ (by omega) (by omega)) (by omega)
    have hc := hl (tF tp n p + k) (by omega) (by omega)
    refine aw_iload_n dX7_nameHere_7 rfl ?_
    refine gm_105 rfl dX7_nameHere_8 dX7_nameHere_9 rfl ?_
    rw [e14]
    refine aw_icmpge (tgt := 33) dX7_nameHere_12 (by decide) (fun h12 => ?_) (fun h12 => ?_)
    · exfalso; omega
    · refine aw_lload_n dX7_nameHere_15 rfl ?_
      refine aw_bipush dX7_nameHere_16 (by decide) ?_
      refine aw_lshl dX7_nameHere_18 ?_
      refine aw_aload_n dX7_nameHere_19 rfl ?_
      refine aw_iload_n dX7_nameHere_20 rfl ?_
      refine c_X7_108 rfl dX7_nameHere_21 m_ob (Nat.le_of_ble_eq_true rfl) (by omega) (C_m_bt hS (by omega) (fun v hv => ?_))
      unfold btR at hv
      have ev : v = tp (tF tp n p + k) := by omega
      refine aK_i ?_
      refine aw_i2l dX7_nameHere_24 ?_
      refine aw_lor dX7_nameHere_25 ?_
      refine aw_lstore1 dX7_nameHere_26 (by decide) rfl ?_
      refine aw_iinc3r dX7_nameHere_27 (by decide) (by decide) rfl (by omega) ?_
      refine aw_goto (tgt := 7) dX7_nameHere_30 (by decide) ?_
      have h9 := ih (k + 1) (by omega)
      rw [show tF tp n p + ((k + 1 : Nat) : Int) = tF tp n p + k + 1 by omega] at h9
      rw [nm_step hb (by omega), ev]
      exact h9
theorem C_m_nameHere {cm : Int → Int → Int} {tp : Int → Int} {n p : Int} {Q : aPost} (H : RM cm tp n p) (hi : isNm tp n p) (hQ : Q (.inl (some (vL (nmM tp n p)))) (gM cm)) : AMet md_X7_nameHere 2 0 0 [vR 0] (gM cm) Q := by
  refine AMet.go (L := [some (vR 0), none, none, none]) mok_X7_nameHere (Nat.le_of_ble_eq_true rfl) rfl ?_
  obtain ⟨hS, hp, e13, e14, e12, e15, e15s⟩ := id H
  have hn := hS.1
  have hF := tF_bd (tp := tp) hp.2
  have hE := tE_bd (tp := tp) hp.2
  have hK := tK_bd (tp := tp) (n := n) (p := p)
  have hk4 : (tK tp n p = 0 ∧ cm 0 12 = 0) ∨ (tK tp n p = 1 ∧ cm 0 12 = 2) ∨ (tK tp n p = 2 ∧ cm 0 12 = 3) ∨ (tK tp n p = 3 ∧ cm 0 12 = 4) ∨ (tK tp n p = 4 ∧ cm 0 12 = 1) := by
    rw [e12]
    rcases (by omega : tK tp n p = 0 ∨ tK tp n p = 1 ∨ tK tp n p = 2 ∨ tK tp n p = 3 ∨ tK tp n p = 4) with z | z | z | z | z <;> (rw [z]; decide)
  refine aw_lconst0 dX7_nameHere_0 ?_
  refine aw_lstore1 dX7_nameHere_1 (by decide) rfl ?_
  refine gm_111 rfl dX7_nameHere_2 dX7_nameHere_3 rfl ?_
  rw [e13]
  refine aw_istore3 dX7_nameHere_6 (by decide) rfl ?_
  have h0 := L_m_nmh (d := 2) (kc := 0) (ks := 0) (by decide) H hi hQ (tE tp n p - tF tp n p).toNat (0 : Nat) (Nat.zero_add _)
  rw [show tF tp n p + ((0 : Nat) : Int) = tF tp n p by omega] at h0
  exact h0
theorem L_m_find {cm : Int → Int → Int} {tp : Int → Int} {n p : Int} {b c R : Int} {Q : aPost} {d kc ks : Nat} (hd : 3 ≤ d) (H : RM cm tp n p) (hi : isNm tp n p) (hb : 0 ≤ b ∧ b + c ≤ 110) (hQ : Q (.inl (some (vI R))) (gM cm)) : ∀ (r : Nat) (k : Int), k + r = c → 0 ≤ k → fndF (cm 2) b (nmM tp n p) r k = R → AW (mq Q) md_X7_findHere d kc ks 2 [some (vR 0), some (vI b), some (vI c), some (vI k)] [] (gM cm) := by
  intro r
  induction r with
  | zero =>
    intro k h1 h2 h3
    have h3 : -1 = R := h3
    refine aw_iload_n dX7_findHere_2 rfl ?_
    refine aw_iload_n dX7_findHere_3 rfl ?_
    refine aw_icmpge (tgt := 31) dX7_findHere_4 (by decide) (fun h4 => ?_) (fun h4 => ?_)
    · refine aw_iconst dX7_findHere_31 (by decide) ?_
      refine aw_ireturn dX7_findHere_32 rfl ?_
      rw [h3]
      exact hQ
    · exfalso; omega
  | succ r ih =>
    intro k h1 h2 h3
    simp only [fndF] at h3
    refine aw_iload_n dX7_findHere_2 rfl ?_
    refine aw_iload_n dX7_findHere_3 rfl ?_
    refine aw_icmpge (tgt := 31) dX7_findHere_4 (by decide) (fun h4 => ?_) (fun h4 => ?_)
    · exfalso; omega
    · refine gm_13 rfl dX7_findHere_7 dX7_findHere_8 rfl ?_
      refine aw_iload_n dX7_findHere_11 rfl ?_
      refine aw_iload_n dX7_findHere_12 rfl ?_
      refine aw_iaddr dX7_findHere_13 (by omega) ?_
      refine aw_laload dX7_findHere_14 m_a2 (by omega) (by omega) ?_
      refine aw_aload_n dX7_findHere_15 rfl ?_
      refine c_X7_161 rfl dX7_findHere_16 m_ob (Nat.le_of_ble_eq_true rfl) (by omega) (C_m_nameHere H hi ?_)
      refine aK_i ?_
      refine aw_lcmpne (tgt := 25) dX7_findHere_19 dX7_findHere_20 (by decide) (fun h19 => ?_) (fun h19 => ?_)
      · refine aw_iinc3r dX7_findHere_25 (by decide) (by decide) rfl (by omega) ?_
        refine aw_goto (tgt := 2) dX7_findHere_28 (by decide) ?_
        exact ih (k + 1) (by omega) (by omega) (by rw [if_neg h19] at h3; exact h3)
      · refine aw_iload_n dX7_findHere_23 rfl ?_
        refine aw_ireturn dX7_findHere_24 rfl ?_
        rw [if_pos h19] at h3
        rw [h3]
        exact hQ
theorem C_m_findHere {cm : Int → Int → Int} {tp : Int → Int} {n p : Int} {b c : Int} {Q : aPost} (H : RM cm tp n p) (hi : isNm tp n p) (hb : 0 ≤ b ∧ b + c ≤ 110) (hc : 0 ≤ c) (hQ : Q (.inl (some (vI (fnd (cm 2) b c (nmM tp n p))))) (gM cm)) : AMet md_X7_findHere 3 0 0 [vR 0, vI b, vI c] (gM cm) Q := by
  refine AMet.go (L := [some (vR 0), some (vI b), some (vI c), none]) mok_X7_findHere (Nat.le_of_ble_eq_true rfl) rfl ?_
  refine aw_iconst dX7_findHere_0 (by decide) ?_
  refine aw_istore3 dX7_findHere_1 (by decide) rfl ?_
  exact L_m_find (by omega) H hi hb hQ c.toNat 0 (by omega) (by decide) rfl
