set_option maxRecDepth 100000
/-! BeeYardModel reads: words, faults, numbers, names -/
theorem RM.goes {cm : Int → Int → Int} {tp : Int → Int} {n p : Int} (H : RM cm tp n p) : (0 ≤ tE tp n p ∧ tE tp n p ≤ n) ∧ cm 0 14 = tE tp n p := by
  have hF := tF_bd (tp := tp) H.2.1.2
  have hE := tE_bd (tp := tp) H.2.1.2
  have := H.2.1
  exact ⟨by omega, H.2.2.2.1⟩
theorem RM.fr {cm cm' : Int → Int → Int} {tp : Int → Int} {n p : Int} (H : RM cm tp n p) (f0 : ∀ i, 11 ≤ i ∧ i ≤ 15 ∨ i = 18 → cm' 0 i = cm 0 i) (f7 : cm' 7 = cm 7) : RM cm' tp n p := by
  obtain ⟨⟨h1, h2, h3, h4⟩, h5, h6, h7, h8, h9, h10⟩ := H
  exact ⟨⟨h1, by rw [f0 11 (by omega)]; exact h2, by rw [f7]; exact h3, by rw [f0 18 (by omega)]; exact h4⟩, h5, by rw [f0 13 (by omega)]; exact h6, by rw [f0 14 (by omega)]; exact h7, by rw [f0 12 (by omega)]; exact h8, by rw [f0 15 (by omega)]; exact h9, by rw [f0 15 (by omega)]; exact h10⟩
theorem RM.up {b : Int} {cm : Int → Int → Int} {tp : Int → Int} {n p i v : Int} (H : RM cm tp n p) (h0 : b ≠ 0) (h7 : b ≠ 7) : RM (aup cm b i v) tp n p := H.fr (fun i _ => by rw [aup_rn (Ne.symm h0)]) (aup_rn (Ne.symm h7))
theorem C_m_isSign {cm : Int → Int → Int} {tp : Int → Int} {n p : Int} {c : Int} {Q : aPost} (H : RM cm tp n p) (hT : sgn tp n p c → Q (.inl (some (vI 1))) (gM cm)) (hN : ¬ sgn tp n p c → Q (.inl (some (vI 0))) (gM cm)) : AMet md_X7_isSign 1 0 0 [vR 0, vI c] (gM cm) Q := by
  refine AMet.go (L := [some (vR 0), some (vI c)]) mok_X7_isSign (Nat.le_of_ble_eq_true rfl) rfl ?_
  obtain ⟨hS, hp, e13, e14, e12, e15, e15s⟩ := id H
  have hn := hS.1
  have hF := tF_bd (tp := tp) hp.2
  have hE := tE_bd (tp := tp) hp.2
  have hK := tK_bd (tp := tp) (n := n) (p := p)
  have hk4 : (tK tp n p = 0 ∧ cm 0 12 = 0) ∨ (tK tp n p = 1 ∧ cm 0 12 = 2) ∨ (tK tp n p = 2 ∧ cm 0 12 = 3) ∨ (tK tp n p = 3 ∧ cm 0 12 = 4) ∨ (tK tp n p = 4 ∧ cm 0 12 = 1) := by
    rw [e12]
    rcases (by omega : tK tp n p = 0 ∨ tK tp n p = 1 ∨ tK tp n p = 2 ∨ tK tp n p = 3 ∨ tK tp n p = 4) with z | z | z | z | z <;> (rw [z]; decide)
  refine gm_117 rfl dX7_isSign_0 dX7_isSign_1 rfl ?_
  refine aw_iconst dX7_isSign_4 (by decide) ?_
  refine aw_icmpne (tgt := 20) dX7_isSign_5 (by decide) (fun h5 => ?_) (fun h5 => ?_)
  · refine aw_iconst dX7_isSign_20 (by decide) ?_
    refine aw_zreturn dX7_isSign_21 rfl (Or.inl rfl) ?_
    exact hN (by omega)
  · refine gm_114 rfl dX7_isSign_8 dX7_isSign_9 rfl ?_
    rw [e15s (by omega)]
    refine aw_iload_n dX7_isSign_12 rfl ?_
    refine aw_icmpne (tgt := 20) dX7_isSign_13 (by decide) (fun h13 => ?_) (fun h13 => ?_)
    · refine aw_iconst dX7_isSign_20 (by decide) ?_
      refine aw_zreturn dX7_isSign_21 rfl (Or.inl rfl) ?_
      exact hN (by omega)
    · refine aw_iconst dX7_isSign_16 (by decide) ?_
      refine aw_goto (tgt := 21) dX7_isSign_17 (by decide) ?_
      refine aw_zreturn dX7_isSign_21 rfl (Or.inr rfl) ?_
      exact hT (by omega)
theorem C_m_fails {cm : Int → Int → Int} {tp : Int → Int} {n p : Int} {k : Int} {Q : aPost} (H : RM cm tp n p) (hk : 1 ≤ k) (hQ : ∀ cm1 : Int → Int → Int, MB cm cm1 (if tK tp n p = 4 then 1 else k) (tF tp n p) → Q (.inl (some (vI 0))) (gM cm1)) : AMet md_X7_fails 1 0 0 [vR 0, vI k] (gM cm) Q := by
  refine AMet.go (L := [some (vR 0), some (vI k)]) mok_X7_fails (Nat.le_of_ble_eq_true rfl) rfl ?_
  obtain ⟨hS, hp, e13, e14, e12, e15, e15s⟩ := id H
  have hn := hS.1
  have hF := tF_bd (tp := tp) hp.2
  have hE := tE_bd (tp := tp) hp.2
  have hK := tK_bd (tp := tp) (n := n) (p := p)
  have hk4 : (tK tp n p = 0 ∧ cm 0 12 = 0) ∨ (tK tp n p = 1 ∧ cm 0 12 = 2) ∨ (tK tp n p = 2 ∧ cm 0 12 = 3) ∨ (tK tp n p = 3 ∧ cm 0 12 = 4) ∨ (tK tp n p = 4 ∧ cm 0 12 = 1) := by
    rw [e12]
    rcases (by omega : tK tp n p = 0 ∨ tK tp n p = 1 ∨ tK tp n p = 2 ∨ tK tp n p = 3 ∨ tK tp n p = 4) with z | z | z | z | z <;> (rw [z]; decide)
  refine gm_142 rfl dX7_fails_0 dX7_fails_1 rfl ?_
  rw [hS.2.2.2]
  refine aw_ifne (tgt := 32) dX7_fails_4 (by decide) (fun h4 => ?_) (fun h4 => ?_)
  · exfalso; omega
  · refine aw_aload_n dX7_fails_7 rfl ?_
    refine gm_117 rfl dX7_fails_8 dX7_fails_9 rfl ?_
    refine aw_iconst dX7_fails_12 (by decide) ?_
    refine aw_icmpne (tgt := 20) dX7_fails_13 (by decide) (fun h13 => ?_) (fun h13 => ?_)
    · refine aw_iload_n dX7_fails_20 rfl ?_
      refine p_X7_142_7 rfl dX7_fails_21 m_ob ?_
      refine aw_aload_n dX7_fails_24 rfl ?_
      refine gm_111 rfl dX7_fails_25 dX7_fails_26 rfl ?_
      rw [aup_n (by decide), e13]
      refine p_X7_41_7 rfl dX7_fails_29 m_ob ?_
      refine aw_iconst dX7_fails_32 (by decide) ?_
      refine aw_zreturn dX7_fails_33 rfl (Or.inl rfl) ?_
      have hm : ∀ u v : Int, 1 ≤ u → MF cm (aup (aup cm 0 18 u) 0 17 v) := fun u v hu => ⟨fun j hj => by
        rw [aup_n (by decide), aup_s] at hj
        rw [aup_n (by omega), aup_n (by omega)], fun b hb => by rw [aup_rn (by omega), aup_rn (by omega)], fun i _ => by rw [aup_rn (by decide), aup_rn (by decide)], fun i _ => by rw [aup_rn (by decide), aup_rn (by decide)], fun f => f.eq (by rw [aup_n (by decide), aup_n (by decide)]) (by rw [aup_rn (by decide), aup_rn (by decide)])⟩
      first
        | exact hQ _ ⟨hm _ _ (by omega), by rw [aup_n (by decide), aup_s, if_pos (by omega)], by rw [aup_s], by rw [if_pos (by omega)]; decide⟩
        | exact hQ _ ⟨hm _ _ (by omega), by rw [aup_n (by decide), aup_s, if_neg (by omega)], by rw [aup_s], by rw [if_neg (by omega)]; exact hk⟩
    · refine aw_iconst dX7_fails_16 (by decide) ?_
      refine aw_goto (tgt := 21) dX7_fails_17 (by decide) ?_
      refine p_X7_142_7 rfl dX7_fails_21 m_ob ?_
      refine aw_aload_n dX7_fails_24 rfl ?_
      refine gm_111 rfl dX7_fails_25 dX7_fails_26 rfl ?_
      rw [aup_n (by decide), e13]
      refine p_X7_41_7 rfl dX7_fails_29 m_ob ?_
      refine aw_iconst dX7_fails_32 (by decide) ?_
      refine aw_zreturn dX7_fails_33 rfl (Or.inl rfl) ?_
      have hm : ∀ u v : Int, 1 ≤ u → MF cm (aup (aup cm 0 18 u) 0 17 v) := fun u v hu => ⟨fun j hj => by
        rw [aup_n (by decide), aup_s] at hj
        rw [aup_n (by omega), aup_n (by omega)], fun b hb => by rw [aup_rn (by omega), aup_rn (by omega)], fun i _ => by rw [aup_rn (by decide), aup_rn (by decide)], fun i _ => by rw [aup_rn (by decide), aup_rn (by decide)], fun f => f.eq (by rw [aup_n (by decide), aup_n (by decide)]) (by rw [aup_rn (by decide), aup_rn (by decide)])⟩
      first
        | exact hQ _ ⟨hm _ _ (by omega), by rw [aup_n (by decide), aup_s, if_pos (by omega)], by rw [aup_s], by rw [if_pos (by omega)]; decide⟩
        | exact hQ _ ⟨hm _ _ (by omega), by rw [aup_n (by decide), aup_s, if_neg (by omega)], by rw [aup_s], by rw [if_neg (by omega)]; exact hk⟩
theorem L_m_iw1 {cm : Int → Int → Int} {tp : Int → Int} {n p : Int} {i : Nat} {Q : aPost} {d kc ks : Nat} {x5 x6 : Option aV} (hd : 5 ≤ d) (hi : i < 23) (K : AW (mq Q) md_X7_inWords d kc ks 42 [some (vR 0), some (vR (-2 - ((23 : Nat) : Int))), some (vI i), some (vI (kst i)), some (vI (kst i + slen (kx i))), x5, x6] [] (gM cm)) : ∀ (r : Nat) (t : Int), t + r = slen (kx i) → 0 ≤ t → AW (mq Q) md_X7_inWords d kc ks 25 [some (vR 0), some (vR (-2 - ((23 : Nat) : Int))), some (vI i), some (vI (kst i)), some (vI (kst i + t)), x5, x6] [] (gM cm) := by
  have hk := kch i hi
  have hl := slen_bd (kx i) (by have := kxi i hi; omega)
  have hst : ∀ i, i < 23 → kst i + awSL.getD (kx i) 0 < awSL.getD 23 0 := by decide
  have hs := hst i hi
  have hlx : slen (kx i) = ((awSL.getD (kx i) 0 : Nat) : Int) := rfl
  have hl23 : slen 23 = ((awSL.getD 23 0 : Nat) : Int) := rfl
  have hb23 := slen_bd 23 (by decide)
  intro r
  induction r with
  | zero =>
    intro t h1 h2
    have et : t = slen (kx i) := by omega
    have hc : sch 23 ((kst i : Int) + t) = 32 := by rw [et, hlx, ← hk.1]; congr 1
    refine aw_aload_n dX7_inWords_25 rfl ?_
    refine aw_iload dX7_inWords_26 rfl ?_
    refine s_X7_chr (k := 23) (by decide) ⟨by omega, by omega⟩ rfl dX7_inWords_28 (Nat.le_of_ble_eq_true rfl) (by omega) ?_
    rw [hc]
    refine aw_bipush dX7_inWords_31 (by decide) ?_
    refine aw_icmpeq (tgt := 42) dX7_inWords_33 (by decide) (fun h33 => ?_) (fun h33 => ?_)
    · rw [et]
      exact K
    · exfalso; omega
  | succ r ih =>
    intro t h1 h2
    have hj := hk.2 t.toNat (by omega)
    have hc : sch 23 ((kst i : Int) + t) ≠ 32 := by
      rw [show (kst i : Int) + t = ((kst i + t.toNat : Nat) : Int) by omega, hj.1]; exact hj.2
    refine aw_aload_n dX7_inWords_25 rfl ?_
    refine aw_iload dX7_inWords_26 rfl ?_
    refine s_X7_chr (k := 23) (by decide) ⟨by omega, by omega⟩ rfl dX7_inWords_28 (Nat.le_of_ble_eq_true rfl) (by omega) ?_
    refine aw_bipush dX7_inWords_31 (by decide) ?_
    refine aw_icmpeq (tgt := 42) dX7_inWords_33 (by decide) (fun h33 => ?_) (fun h33 => ?_)
    · exact absurd h33 hc
    · refine aw_iinc4r dX7_inWords_36 (by decide) (by decide) rfl (by omega) ?_
      refine aw_goto (tgt := 25) dX7_inWords_39 (by decide) ?_
      rw [show (kst i : Int) + t + 1 = kst i + (t + 1) by omega]
      exact ih (t + 1) (by omega) (by omega)
theorem L_m_iw2 {cm : Int → Int → Int} {tp : Int → Int} {n p : Int} {i : Nat} {Q : aPost} {d kc ks : Nat} (hd : 5 ≤ d) (H : RM cm tp n p) (hi : i < 23) (hl9 : tE tp n p - tF tp n p = slen (kx i)) (KY : wq tp (tF tp n p) (tE tp n p) (kx i) → ∀ t : Int, AW (mq Q) md_X7_inWords d kc ks 115 [some (vR 0), some (vR (-2 - ((23 : Nat) : Int))), some (vI i), some (vI (kst i)), some (vI (kst i + slen (kx i))), some (vI 1), some (vI (kst i + t))] [] (gM cm)) (KN : ¬ wq tp (tF tp n p) (tE tp n p) (kx i) → ∀ t : Int, AW (mq Q) md_X7_inWords d kc ks 115 [some (vR 0), some (vR (-2 - ((23 : Nat) : Int))), some (vI i), some (vI (kst i)), some (vI (kst i + slen (kx i))), some (vI 0), some (vI (kst i + t))] [] (gM cm)) : ∀ (r : Nat) (t : Int), t + r = slen (kx i) → 0 ≤ t → (∀ j, 0 ≤ j → j < t → tp (tF tp n p + j) = sch (kx i) j) → AW (mq Q) md_X7_inWords d kc ks 68 [some (vR 0), some (vR (-2 - ((23 : Nat) : Int))), some (vI i), some (vI (kst i)), some (vI (kst i + slen (kx i))), some (vI 1), some (vI (kst i + t))] [] (gM cm) := by
  obtain ⟨hS, hp, e13, e14, e12, e15, e15s⟩ := id H
  have hn := hS.1
  have hF := tF_bd (tp := tp) hp.2
  have hE := tE_bd (tp := tp) hp.2
  have hK := tK_bd (tp := tp) (n := n) (p := p)
  have hk4 : (tK tp n p = 0 ∧ cm 0 12 = 0) ∨ (tK tp n p = 1 ∧ cm 0 12 = 2) ∨ (tK tp n p = 2 ∧ cm 0 12 = 3) ∨ (tK tp n p = 3 ∧ cm 0 12 = 4) ∨ (tK tp n p = 4 ∧ cm 0 12 = 1) := by
    rw [e12]
    rcases (by omega : tK tp n p = 0 ∨ tK tp n p = 1 ∨ tK tp n p = 2 ∨ tK tp n p = 3 ∨ tK tp n p = 4) with z | z | z | z | z <;> (rw [z]; decide)
  have hk := kch i hi
  have hl := slen_bd (kx i) (by have := kxi i hi; omega)
  have hst : ∀ i, i < 23 → kst i + awSL.getD (kx i) 0 < awSL.getD 23 0 := by decide
  have hs := hst i hi
  have hlx : slen (kx i) = ((awSL.getD (kx i) 0 : Nat) : Int) := rfl
  have hl23 : slen 23 = ((awSL.getD 23 0 : Nat) : Int) := rfl
  have hb23 := slen_bd 23 (by decide)
  have hck : ∀ t : Int, 0 ≤ t → t < slen (kx i) → sch 23 ((kst i : Int) + t) = sch (kx i) t := fun t h2 h3 => by
    have hj := hk.2 t.toNat (by omega)
    rw [show (kst i : Int) + t = ((kst i + t.toNat : Nat) : Int) by omega, hj.1, show ((t.toNat : Nat) : Int) = t by omega]
  intro r
  induction r with
  | zero =>
    intro t h1 h2 h3
    refine aw_iload dX7_inWords_68 rfl ?_
    refine aw_iload dX7_inWords_70 rfl ?_
    refine aw_icmpge (tgt := 115) dX7_inWords_72 (by decide) (fun h72 => ?_) (fun h72 => ?_)
    · exact KY ⟨hl9, fun j j0 j1 => h3 j j0 (by omega)⟩ t
    · exfalso; omega
  | succ r ih =>
    intro t h1 h2 h3
    have hc := hck t h2 (by omega)
    have hcb := sch_in (k := kx i) (by have := kxi i hi; omega) h2 (by omega)
    have K115 : tp (tF tp n p + t) ≠ sch (kx i) t → AW (mq Q) md_X7_inWords d kc ks 68 [some (vR 0), some (vR (-2 - ((23 : Nat) : Int))), some (vI i), some (vI (kst i)), some (vI (kst i + slen (kx i))), some (vI 0), some (vI (kst i + t + 1))] [] (gM cm) := fun hz => by
      refine aw_iload dX7_inWords_68 rfl ?_
      refine aw_iload dX7_inWords_70 rfl ?_
      refine aw_icmpge (tgt := 115) dX7_inWords_72 (by decide) (fun h72 => ?_) (fun h72 => ?_)
      · rw [show (kst i : Int) + t + 1 = kst i + (t + 1) by omega]
        exact KN (fun z => hz (z.2 t h2 (by omega))) _
      · refine aw_iload dX7_inWords_75 rfl ?_
        refine aw_ifeq (tgt := 115) dX7_inWords_77 (by decide) (fun h77 => ?_) (fun h77 => ?_)
        · rw [show (kst i : Int) + t + 1 = kst i + (t + 1) by omega]
          exact KN (fun z => hz (z.2 t h2 (by omega))) _
        · exfalso; omega
    refine aw_iload dX7_inWords_68 rfl ?_
    refine aw_iload dX7_inWords_70 rfl ?_
    refine aw_icmpge (tgt := 115) dX7_inWords_72 (by decide) (fun h72 => ?_) (fun h72 => ?_)
    · exfalso; omega
    · refine aw_iload dX7_inWords_75 rfl ?_
      refine aw_ifeq (tgt := 115) dX7_inWords_77 (by decide) (fun h77 => ?_) (fun h77 => ?_)
      · exfalso; omega
      · refine aw_aload_n dX7_inWords_80 rfl ?_
        refine aw_iload dX7_inWords_81 rfl ?_
        refine s_X7_chr (k := 23) (by decide) ⟨by omega, by omega⟩ rfl dX7_inWords_83 (Nat.le_of_ble_eq_true rfl) (by omega) ?_
        rw [hc]
        refine aw_aload_n dX7_inWords_86 rfl ?_
        refine gm_111 rfl dX7_inWords_87 dX7_inWords_88 rfl ?_
        rw [e13]
        refine aw_iload dX7_inWords_91 rfl ?_
        refine aw_iaddr dX7_inWords_93 (by omega) ?_
        refine aw_iload_n dX7_inWords_94 rfl ?_
        refine aw_isubr dX7_inWords_95 (by omega) ?_
        refine c_X7_108 rfl dX7_inWords_96 m_ob (Nat.le_of_ble_eq_true rfl) (by omega) (C_m_bt hS (by omega) (fun v hv => ?_))
        unfold btR at hv
        rw [show tF tp n p + ((kst i : Int) + t) - kst i = tF tp n p + t by omega] at hv
        refine aK_i ?_
        refine aw_icmpne (tgt := 106) dX7_inWords_99 (by decide) (fun h99 => ?_) (fun h99 => ?_)
        · refine aw_iconst dX7_inWords_106 (by decide) ?_
          refine aw_istore5 dX7_inWords_107 (by decide) rfl ?_
          refine aw_iinc6r dX7_inWords_109 (by decide) (by decide) rfl (by omega) ?_
          refine aw_goto (tgt := 68) dX7_inWords_112 (by decide) ?_
          first
            | exact K115 (by omega)
            | (rw [show (kst i : Int) + t + 1 = kst i + (t + 1) by omega]
               exact ih (t + 1) (by omega) (by omega) (fun j j0 j1 => by
                 by_cases z : j = t
                 · rw [z]; omega
                 · exact h3 j j0 (by omega)))
        · refine aw_iconst dX7_inWords_102 (by decide) ?_
          refine aw_goto (tgt := 107) dX7_inWords_103 (by decide) ?_
          refine aw_istore5 dX7_inWords_107 (by decide) rfl ?_
          refine aw_iinc6r dX7_inWords_109 (by decide) (by decide) rfl (by omega) ?_
          refine aw_goto (tgt := 68) dX7_inWords_112 (by decide) ?_
          first
            | exact K115 (by omega)
            | (rw [show (kst i : Int) + t + 1 = kst i + (t + 1) by omega]
               exact ih (t + 1) (by omega) (by omega) (fun j j0 j1 => by
                 by_cases z : j = t
                 · rw [z]; omega
                 · exact h3 j j0 (by omega)))
