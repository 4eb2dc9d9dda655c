set_option maxRecDepth 100000
/-! BeeYardModel, 3: a day in a hive -/
abbrev outH (h n : Int) (s s' : Int → Int) : Prop := ∀ i, (i < h + 6 ∨ h + 6 + 16 * n ≤ i) → s' i = s i
abbrev dfr (ct ct' : Int → Int → Int) : Prop := (∀ b, b ≠ 0 → b ≠ 1 → b ≠ 9 → ct' b = ct b) ∧ ∀ i, i ≠ 24 → i ≠ 25 → i ≠ 26 → i ≠ 27 → ct' 0 i = ct 0 i
theorem outH.up {h n f v : Int} {s s' : Int → Int} (k : outH h n s s') (h0 : h + 6 ≤ f) (h1 : f < h + 6 + 16 * n) : outH h n s (upA s' f v) := fun i hi => by rw [upA_n (by omega)]; exact k i hi
theorem mfr.up0 {ct ct' : Int → Int → Int} {i v : Int} (h : dfr ct ct') (hi : i = 24 ∨ i = 25 ∨ i = 26 ∨ i = 27) : dfr ct (aup ct' 0 i v) := ⟨fun b b0 b1 b9 => by rw [aup_rn b0]; exact h.1 b b0 b1 b9, fun j j1 j2 j3 j4 => by rw [aup_n (fun z => by omega)]; exact h.2 j j1 j2 j3 j4⟩
theorem dfr.up1 {ct ct' : Int → Int → Int} {i v : Int} (h : dfr ct ct') : dfr ct (aup ct' 1 i v) := ⟨fun b b0 b1 b9 => by rw [aup_rn b1]; exact h.1 b b0 b1 b9, fun j j1 j2 j3 j4 => by rw [aup_rn (by decide)]; exact h.2 j j1 j2 j3 j4⟩
theorem dfr.m {a b c : Int → Int → Int} (h : dfr a b) (k : mfr b c) : dfr a c := ⟨fun x b0 b1 b9 => (k.1 x b0 b1 b9).trans (h.1 x b0 b1 b9), fun i h1 h2 h3 h4 => (k.2 i h1).trans (h.2 i h1 h2 h3 h4)⟩
theorem dfr.rf {ct : Int → Int → Int} : dfr ct ct := ⟨fun _ _ _ _ => rfl, fun _ _ _ _ _ => rfl⟩
theorem L_m_age {ct : Int → Int → Int} {n h y : Int} {Q : aPost} {d kc ks : Nat} {x5 x6 x7 x8 : Option aV} {c : Int → Int} (hn : 1 ≤ n ∧ n ≤ 12) (hh : 0 ≤ h ∧ h + 6 + 16 * n ≤ 7578) (hr : rgF n c)
    (K : ∀ (ct' : Int → Int → Int) (f : Int), eqF n (sh h (ct' 1)) (ageC n c) → ct' 0 26 = dCame n c → outH h n (ct 1) (ct' 1) → dfr ct ct' → ct' 9 = ct 9 → ct' 0 24 = ct 0 24 → AW (mq Q) md_X7_dayOf d kc ks 97 [some (vR 0), some (vI h), some (vI y), some (vI (16 * n)), some (vI f), x5, x6, x7, x8] [] (gM ct')) : ∀ (r j : Nat) (f : Int) (ct1 : Int → Int → Int), f = h + 6 + j → (j : Int) + r = 16 * n → (∀ i : Int, 0 ≤ i → i < j → ct1 1 (h + 6 + i) = agef (c i)) → (∀ i : Int, j ≤ i → i < 16 * n → ct1 1 (h + 6 + i) = c i) → ct1 0 26 = isum (fun i => if 121 ≤ c i then (1 : Int) else 0) j → outH h n (ct 1) (ct1 1) → dfr ct ct1 → ct1 9 = ct 9 → ct1 0 24 = ct 0 24 →
    AW (mq Q) md_X7_dayOf d kc ks 21 [some (vR 0), some (vI h), some (vI y), some (vI (16 * n)), some (vI f), x5, x6, x7, x8] [] (gM ct1) := by
  intro r
  induction r with
  | zero =>
    intro j f ct1 h1 h2 h3 h4 h5 h6 h7 h8 h9
    refine aw_iload dX7_dayOf_21 rfl ?_
    refine aw_iload_n dX7_dayOf_23 rfl ?_
    refine aw_bipush dX7_dayOf_24 (by decide) ?_
    refine aw_iaddr dX7_dayOf_26 (by omega) ?_
    refine aw_iload_n dX7_dayOf_27 rfl ?_
    refine aw_iaddr dX7_dayOf_28 (by omega) ?_
    refine aw_icmpge (tgt := 97) dX7_dayOf_29 (by decide) (fun h29 => ?_) (fun h29 => ?_)
    · refine K ct1 _ (fun i i0 i1 => ?_) ?_ h6 h7 h8 h9
      · rw [ageC_eq i i0 i1]; exact h3 i i0 (by omega)
      · have ej : nF n = j := by unfold nF; omega
        unfold dCame
        rw [ej]
        exact h5
    · exfalso; omega
  | succ r ih =>
    intro j f ct1 h1 h2 h3 h4 h5 h6 h7 h8 h9
    subst h1
    have hv : 0 ≤ c j ∧ c j ≤ 121 := hr j (by omega) (by omega)
    have hb := isum_bd (g := fun i => if 121 ≤ c i then (1 : Int) else 0) (B := 1) (n := j) fun i i0 i1 => by split <;> omega
    have e0 : ct1 1 (h + 6 + j) = c j := h4 j (by omega) (by omega)
    have es : isum (fun i => if 121 ≤ c i then (1 : Int) else 0) (j + 1) = isum (fun i => if 121 ≤ c i then (1 : Int) else 0) j + if 121 ≤ c j then 1 else 0 := rfl
    refine aw_iload dX7_dayOf_21 rfl ?_
    refine aw_iload_n dX7_dayOf_23 rfl ?_
    refine aw_bipush dX7_dayOf_24 (by decide) ?_
    refine aw_iaddr dX7_dayOf_26 (by omega) ?_
    refine aw_iload_n dX7_dayOf_27 rfl ?_
    refine aw_iaddr dX7_dayOf_28 (by omega) ?_
    refine aw_icmpge (tgt := 97) dX7_dayOf_29 (by decide) (fun h29 => ?_) (fun h29 => ?_)
    · exfalso; omega
    · refine gm_7 rfl dX7_dayOf_32 dX7_dayOf_33 rfl ?_
      refine aw_iload dX7_dayOf_36 rfl ?_
      refine aw_iaload dX7_dayOf_38 m_a1 (by omega) (by omega) ?_
      refine aw_bipush dX7_dayOf_39 (by decide) ?_
      refine aw_icmpge (tgt := 47) dX7_dayOf_41 (by decide) (fun h41 => ?_) (fun h41 => ?_)
      · refine gm_7 rfl dX7_dayOf_47 dX7_dayOf_48 rfl ?_
        refine aw_iload dX7_dayOf_51 rfl ?_
        refine aw_dup2 dX7_dayOf_53 rfl rfl ?_
        refine aw_iaload dX7_dayOf_54 m_a1 (by omega) (by omega) ?_
        refine aw_iconst dX7_dayOf_55 (by decide) ?_
        refine aw_iaddr dX7_dayOf_56 (by omega) ?_
        refine aw_iastore dX7_dayOf_57 m_a1 (by omega) (by omega) ?_
        refine gm_7 rfl dX7_dayOf_58 dX7_dayOf_59 rfl ?_
        refine aw_iload dX7_dayOf_62 rfl ?_
        refine aw_iaload dX7_dayOf_64 m_a1 (by omega) (by omega) ?_
        refine aw_bipush dX7_dayOf_65 (by decide) ?_
        refine aw_icmpgt (tgt := 73) dX7_dayOf_67 (by decide) (fun h67 => ?_) (fun h67 => ?_)
        · rw [aup_s] at h67
          refine gm_7 rfl dX7_dayOf_73 dX7_dayOf_74 rfl ?_
          refine aw_iload dX7_dayOf_77 rfl ?_
          refine aw_iconst dX7_dayOf_79 (by decide) ?_
          refine aw_iastore dX7_dayOf_80 m_a1 (by omega) (by omega) ?_
          refine aw_aload_n dX7_dayOf_81 rfl ?_
          refine aw_dup dX7_dayOf_82 rfl ?_
          refine g_X7_253_7 rfl dX7_dayOf_83 m_ob ?_
          rw [aup_rn (by decide), aup_rn (by decide)]
          refine aw_iconst dX7_dayOf_86 (by decide) ?_
          refine aw_iaddr dX7_dayOf_87 (by omega) ?_
          refine p_X7_253_7 rfl dX7_dayOf_88 m_ob ?_
          refine aw_iinc4r dX7_dayOf_91 (by decide) (by decide) rfl (by omega) ?_
          refine aw_goto (tgt := 21) dX7_dayOf_94 (by decide) ?_
          first
            | (have f1 : agef (c j) = c j := by unfold agef; rw [if_pos (by omega)]
               refine ih (j + 1) _ _ (by omega) (by omega) (fun i i0 i1 => ?_) (fun i i0 i1 => h4 i (by omega) i1) ?_ h6 h7 h8 h9
               · by_cases hi : i = j
                 · subst hi; rw [e0, f1]
                 · exact h3 i i0 (by omega)
               · rw [es, if_neg (by omega), h5]; omega)
            | (have f1 : agef (c j) = c j + 1 := by unfold agef; rw [if_neg (by omega), if_pos (by omega)]
               refine ih (j + 1) _ _ (by omega) (by omega) (fun i i0 i1 => ?_) (fun i i0 i1 => ?_) ?_ ?_ h7.up1 ?_ ?_
               · by_cases hi : i = j
                 · subst hi; rw [aup_s, f1]; omega
                 · rw [aup_n (by omega)]; exact h3 i i0 (by omega)
               · rw [aup_n (by omega)]; exact h4 i (by omega) i1
               · rw [aup_rn (by decide), es, if_neg (by omega), h5]; omega
               · rw [aup_r]; exact h6.up (by omega) (by omega)
               · rw [aup_rn (by decide)]; exact h8
               · rw [aup_rn (by decide)]; exact h9)
            | (have f1 : agef (c j) = 0 := by unfold agef; rw [if_neg (by omega), if_neg (by omega)]
               refine ih (j + 1) _ _ (by omega) (by omega) (fun i i0 i1 => ?_) (fun i i0 i1 => ?_) ?_ ?_ (mfr.up0 h7.up1.up1 (by omega)) ?_ ?_
               · rw [aup_rn (by decide)]
                 by_cases hi : i = j
                 · subst hi; rw [aup_s, f1]
                 · rw [aup_n (by omega), aup_n (by omega)]; exact h3 i i0 (by omega)
               · rw [aup_rn (by decide), aup_n (by omega), aup_n (by omega)]; exact h4 i (by omega) i1
               · rw [aup_s, es, if_pos (by omega), h5]
               · rw [aup_rn (by decide), aup_r, aup_r]; exact (h6.up (by omega) (by omega)).up (by omega) (by omega)
               · rw [aup_rn (by decide), aup_rn (by decide), aup_rn (by decide)]; exact h8
               · rw [aup_n (by omega), aup_rn (by decide), aup_rn (by decide)]; exact h9)
        · rw [aup_s] at h67
          refine aw_goto (tgt := 91) dX7_dayOf_70 (by decide) ?_
          refine aw_iinc4r dX7_dayOf_91 (by decide) (by decide) rfl (by omega) ?_
          refine aw_goto (tgt := 21) dX7_dayOf_94 (by decide) ?_
          first
            | (have f1 : agef (c j) = c j := by unfold agef; rw [if_pos (by omega)]
               refine ih (j + 1) _ _ (by omega) (by omega) (fun i i0 i1 => ?_) (fun i i0 i1 => h4 i (by omega) i1) ?_ h6 h7 h8 h9
               · by_cases hi : i = j
                 · subst hi; rw [e0, f1]
                 · exact h3 i i0 (by omega)
               · rw [es, if_neg (by omega), h5]; omega)
            | (have f1 : agef (c j) = c j + 1 := by unfold agef; rw [if_neg (by omega), if_pos (by omega)]
               refine ih (j + 1) _ _ (by omega) (by omega) (fun i i0 i1 => ?_) (fun i i0 i1 => ?_) ?_ ?_ h7.up1 ?_ ?_
               · by_cases hi : i = j
                 · subst hi; rw [aup_s, f1]; omega
                 · rw [aup_n (by omega)]; exact h3 i i0 (by omega)
               · rw [aup_n (by omega)]; exact h4 i (by omega) i1
               · rw [aup_rn (by decide), es, if_neg (by omega), h5]; omega
               · rw [aup_r]; exact h6.up (by omega) (by omega)
               · rw [aup_rn (by decide)]; exact h8
               · rw [aup_rn (by decide)]; exact h9)
            | (have f1 : agef (c j) = 0 := by unfold agef; rw [if_neg (by omega), if_neg (by omega)]
               refine ih (j + 1) _ _ (by omega) (by omega) (fun i i0 i1 => ?_) (fun i i0 i1 => ?_) ?_ ?_ (mfr.up0 h7.up1.up1 (by omega)) ?_ ?_
               · rw [aup_rn (by decide)]
                 by_cases hi : i = j
                 · subst hi; rw [aup_s, f1]
                 · rw [aup_n (by omega), aup_n (by omega)]; exact h3 i i0 (by omega)
               · rw [aup_rn (by decide), aup_n (by omega), aup_n (by omega)]; exact h4 i (by omega) i1
               · rw [aup_s, es, if_pos (by omega), h5]
               · rw [aup_rn (by decide), aup_r, aup_r]; exact (h6.up (by omega) (by omega)).up (by omega) (by omega)
               · rw [aup_rn (by decide), aup_rn (by decide), aup_rn (by decide)]; exact h8
               · rw [aup_n (by omega), aup_rn (by decide), aup_rn (by decide)]; exact h9)
      · refine aw_goto (tgt := 91) dX7_dayOf_44 (by decide) ?_
        refine aw_iinc4r dX7_dayOf_91 (by decide) (by decide) rfl (by omega) ?_
        refine aw_goto (tgt := 21) dX7_dayOf_94 (by decide) ?_
        first
          | (have f1 : agef (c j) = c j := by unfold agef; rw [if_pos (by omega)]
             refine ih (j + 1) _ _ (by omega) (by omega) (fun i i0 i1 => ?_) (fun i i0 i1 => h4 i (by omega) i1) ?_ h6 h7 h8 h9
             · by_cases hi : i = j
               · subst hi; rw [e0, f1]
               · exact h3 i i0 (by omega)
             · rw [es, if_neg (by omega), h5]; omega)
          | (have f1 : agef (c j) = c j + 1 := by unfold agef; rw [if_neg (by omega), if_pos (by omega)]
             refine ih (j + 1) _ _ (by omega) (by omega) (fun i i0 i1 => ?_) (fun i i0 i1 => ?_) ?_ ?_ h7.up1 ?_ ?_
             · by_cases hi : i = j
               · subst hi; rw [aup_s, f1]; omega
               · rw [aup_n (by omega)]; exact h3 i i0 (by omega)
             · rw [aup_n (by omega)]; exact h4 i (by omega) i1
             · rw [aup_rn (by decide), es, if_neg (by omega), h5]; omega
             · rw [aup_r]; exact h6.up (by omega) (by omega)
             · rw [aup_rn (by decide)]; exact h8
             · rw [aup_rn (by decide)]; exact h9)
          | (have f1 : agef (c j) = 0 := by unfold agef; rw [if_neg (by omega), if_neg (by omega)]
             refine ih (j + 1) _ _ (by omega) (by omega) (fun i i0 i1 => ?_) (fun i i0 i1 => ?_) ?_ ?_ (mfr.up0 h7.up1.up1 (by omega)) ?_ ?_
             · rw [aup_rn (by decide)]
               by_cases hi : i = j
               · subst hi; rw [aup_s, f1]
               · rw [aup_n (by omega), aup_n (by omega)]; exact h3 i i0 (by omega)
             · rw [aup_rn (by decide), aup_n (by omega), aup_n (by omega)]; exact h4 i (by omega) i1
             · rw [aup_s, es, if_pos (by omega), h5]
             · rw [aup_rn (by decide), aup_r, aup_r]; exact (h6.up (by omega) (by omega)).up (by omega) (by omega)
             · rw [aup_rn (by decide), aup_rn (by decide), aup_rn (by decide)]; exact h8
             · rw [aup_n (by omega), aup_rn (by decide), aup_rn (by decide)]; exact h9)
theorem L_m_lay {ct : Int → Int → Int} {n h y : Int} {Q : aPost} {d kc ks : Nat} {x7 x8 : Option aV} (hd : 2 ≤ d) (hn : 1 ≤ n ∧ n ≤ 12) (hh : 0 ≤ h ∧ h + 6 + 16 * n ≤ 7578) (R : Int → Int)
    (K : ∀ (ct' : Int → Int → Int) (e k : Int) (x6 : Option aV), nl (some x6) = true → FC ct' n → eqF n (sh h (ct' 1)) R → outH h n (ct 1) (ct' 1) → mfr ct ct' → AW (mq Q) md_X7_dayOf d kc ks 179 [some (vR 0), some (vI h), some (vI y), some (vI (16 * n)), some (vI e), some (vI k), x6, x7, x8] [] (gM ct')) : ∀ (r : Nat) (e k : Int) (ct1 : Int → Int → Int) (x6 : Option aV), nl (some x6) = true → k + r = 16 * n → 0 ≤ k → -100 ≤ e → e ≤ 100 → FC ct1 n → eqF n (layE n r (sh h (ct1 1)) e) R → outH h n (ct 1) (ct1 1) → mfr ct ct1 →
    AW (mq Q) md_X7_dayOf d kc ks 128 [some (vR 0), some (vI h), some (vI y), some (vI (16 * n)), some (vI e), some (vI k), x6, x7, x8] [] (gM ct1) := by
  intro r
  induction r with
  | zero =>
    intro e k ct1 x6 hx6 h1 h2 h3 h4 hF e1 ho hs
    refine aw_iload dX7_dayOf_128 rfl ?_
    refine aw_iload_n dX7_dayOf_130 rfl ?_
    refine aw_icmpge (tgt := 179) dX7_dayOf_131 (by decide) (fun h131 => ?_) (fun h131 => ?_)
    · exact K ct1 _ _ _ hx6 hF e1 ho hs
    · exfalso; omega
  | succ r ih =>
    intro e k ct1 x6 hx6 h1 h2 h3 h4 hF e1 ho hs
    have hk : k = 16 * n - (r + 1) := by omega
    subst hk
    have hf := fld_in (n := n) (k := 16 * n - (r + 1)) (by omega) (by omega)
    have hv2 : sh h (ct1 1) (fld n (16 * n - (r + 1))) = ct1 1 (h + 6 + fld n (16 * n - (r + 1))) := rfl
    refine aw_iload dX7_dayOf_128 rfl ?_
    refine aw_iload_n dX7_dayOf_130 rfl ?_
    refine aw_icmpge (tgt := 179) dX7_dayOf_131 (by decide) (fun h131 => ?_) (fun h131 => ?_)
    · exfalso; omega
    · refine aw_iload dX7_dayOf_134 rfl ?_
      refine aw_ifle (tgt := 179) dX7_dayOf_136 (by decide) (fun h136 => ?_) (fun h136 => ?_)
      · simp only [layE, if_pos h136] at e1
        exact K ct1 _ _ _ hx6 hF e1 ho hs
      · refine aw_aload_n dX7_dayOf_139 rfl ?_
        refine aw_iload_n dX7_dayOf_140 rfl ?_
        refine aw_iload dX7_dayOf_141 rfl ?_
        refine c_X7_250 rfl dX7_dayOf_143 m_ob (Nat.le_of_ble_eq_true rfl) (by omega) (C_m_fieldOf hF hn (by omega) (by omega) ?_)
        refine aK_i ?_
        refine aw_istore6 dX7_dayOf_146 (by decide) rfl ?_
        refine gm_7 rfl dX7_dayOf_148 dX7_dayOf_149 rfl ?_
        refine aw_iload dX7_dayOf_152 rfl ?_
        refine aw_iaload dX7_dayOf_154 m_a1 (by omega) (by omega) ?_
        refine aw_ifeq (tgt := 161) dX7_dayOf_155 (by decide) (fun h155 => ?_) (fun h155 => ?_)
        · have n1 : ¬ e ≤ 0 := by omega
          simp only [layE, if_neg n1, hv2, if_neg (show ¬ ct1 1 (h + 6 + fld n (16 * n - (r + 1))) ≠ 0 by omega)] at e1
          refine gm_7 rfl dX7_dayOf_161 dX7_dayOf_162 rfl ?_
          refine aw_iload dX7_dayOf_165 rfl ?_
          refine aw_bipush dX7_dayOf_167 (by decide) ?_
          refine aw_iastore dX7_dayOf_169 m_a1 (by omega) (by omega) ?_
          refine aw_iinc4r dX7_dayOf_170 (by decide) (by decide) rfl (by omega) ?_
          refine aw_iinc5r dX7_dayOf_173 (by decide) (by decide) rfl (by omega) ?_
          refine aw_goto (tgt := 128) dX7_dayOf_176 (by decide) ?_
          first
            | exact ih _ _ _ _ rfl (by omega) (by omega) (by omega) (by omega) hF e1 ho hs
            | (refine ih _ _ _ _ rfl (by omega) (by omega) (by omega) (by omega) hF.up1 ?_ ?_ hs.up1
               · rw [aup_r, sh_upA]; exact e1
               · rw [aup_r]; exact ho.up (by omega) (by omega))
        · have n1 : ¬ e ≤ 0 := by omega
          simp only [layE, if_neg n1, hv2, if_pos (show ct1 1 (h + 6 + fld n (16 * n - (r + 1))) ≠ 0 by omega)] at e1
          refine aw_goto (tgt := 173) dX7_dayOf_158 (by decide) ?_
          refine aw_iinc5r dX7_dayOf_173 (by decide) (by decide) rfl (by omega) ?_
          refine aw_goto (tgt := 128) dX7_dayOf_176 (by decide) ?_
          first
            | exact ih _ _ _ _ rfl (by omega) (by omega) (by omega) (by omega) hF e1 ho hs
            | (refine ih _ _ _ _ rfl (by omega) (by omega) (by omega) (by omega) hF.up1 ?_ ?_ hs.up1
               · rw [aup_r, sh_upA]; exact e1
               · rw [aup_r]; exact ho.up (by omega) (by omega))
theorem L_m_eat {ct : Int → Int → Int} {n h y : Int} {Q : aPost} {d kc ks : Nat} {w : Int} {x4 : Option aV} (hx4 : nl (some x4) = true) (hd : 2 ≤ d) (hn : 1 ≤ n ∧ n ≤ 12) (hh : 0 ≤ h ∧ h + 6 + 16 * n ≤ 7578) (hw : 0 ≤ w ∧ w < 2147483648) (R : (Int → Int) × Int)
    (K : ∀ (ct' : Int → Int → Int) (k : Int) (x7 x8 : Option aV), FC ct' n → eqF n (sh h (ct' 1)) R.1 → ct' 0 25 = w - R.2 → outH h n (ct 1) (ct' 1) → (∀ b, b ≠ 0 → b ≠ 1 → b ≠ 9 → ct' b = ct b) → (∀ i, i ≠ 25 → ct' 0 i = ct 0 i) → AW (mq Q) md_X7_dayOf d kc ks 329 [some (vR 0), some (vI h), some (vI y), some (vI (16 * n)), x4, some (vI w), some (vI k), x7, x8] [] (gM ct')) : ∀ (r : Nat) (l k : Int) (ct1 : Int → Int → Int) (x7 x8 : Option aV), nl (some x7) = true → k + r = 16 * n → 0 ≤ k → 0 ≤ l → l ≤ w → ct1 0 25 = w - l → FC ct1 n → rgF n (sh h (ct1 1)) → eqF n (eatE n r (sh h (ct1 1)) l).1 R.1 → (eatE n r (sh h (ct1 1)) l).2 = R.2 → outH h n (ct 1) (ct1 1) → (∀ b, b ≠ 0 → b ≠ 1 → b ≠ 9 → ct1 b = ct b) → (∀ i, i ≠ 25 → ct1 0 i = ct 0 i) →
    AW (mq Q) md_X7_dayOf d kc ks 232 [some (vR 0), some (vI h), some (vI y), some (vI (16 * n)), x4, some (vI w), some (vI k), x7, x8] [] (gM ct1) := by
  intro r
  induction r with
  | zero =>
    intro l k ct1 x7 x8 hx7 h1 h2 h3 h4 h5 hF hr e1 e2 ho hs hs0
    refine aw_iload dX7_dayOf_232 rfl ?_
    refine aw_iload_n dX7_dayOf_234 rfl ?_
    refine aw_icmpge (tgt := 329) dX7_dayOf_235 (by decide) (fun h235 => ?_) (fun h235 => ?_)
    · simp only [eatE] at e1 e2
      exact K ct1 _ _ _ hF e1 (by omega) ho hs hs0
    · exfalso; omega
  | succ r ih =>
    intro l k ct1 x7 x8 hx7 h1 h2 h3 h4 h5 hF hr e1 e2 ho hs hs0
    have hk : k = 16 * n - (r + 1) := by omega
    subst hk
    have hf := fld_in (n := n) (k := 16 * n - (r + 1)) (by omega) (by omega)
    have hv : 0 ≤ ct1 1 (h + 6 + fld n (16 * n - (r + 1))) ∧ ct1 1 (h + 6 + fld n (16 * n - (r + 1))) ≤ 121 := hr _ hf.1 hf.2
    have hv2 : sh h (ct1 1) (fld n (16 * n - (r + 1))) = ct1 1 (h + 6 + fld n (16 * n - (r + 1))) := rfl
    refine aw_iload dX7_dayOf_232 rfl ?_
    refine aw_iload_n dX7_dayOf_234 rfl ?_
    refine aw_icmpge (tgt := 329) dX7_dayOf_235 (by decide) (fun h235 => ?_) (fun h235 => ?_)
    · exfalso; omega
    · refine gm_256 rfl dX7_dayOf_238 dX7_dayOf_239 rfl ?_
      rw [h5]
      refine aw_iload dX7_dayOf_242 rfl ?_
      refine aw_icmpge (tgt := 329) dX7_dayOf_244 (by decide) (fun h244 => ?_) (fun h244 => ?_)
      · simp only [eatE, if_pos (show l ≤ 0 by omega)] at e1 e2
        exact K ct1 _ _ _ hF e1 (by omega) ho hs hs0
      · refine aw_aload_n dX7_dayOf_247 rfl ?_
        refine aw_iload_n dX7_dayOf_248 rfl ?_
        refine aw_iload dX7_dayOf_249 rfl ?_
        refine c_X7_250 rfl dX7_dayOf_251 m_ob (Nat.le_of_ble_eq_true rfl) (by omega) (C_m_fieldOf hF hn (by omega) (by omega) ?_)
        refine aK_i ?_
        refine aw_istore7 dX7_dayOf_254 (by decide) rfl ?_
        refine gm_7 rfl dX7_dayOf_256 dX7_dayOf_257 rfl ?_
        refine aw_iload dX7_dayOf_260 rfl ?_
        refine aw_iaload dX7_dayOf_262 m_a1 (by omega) (by omega) ?_
        refine aw_ifeq (tgt := 323) dX7_dayOf_263 (by decide) (fun h263 => ?_) (fun h263 => ?_)
        · try (have n1 : ¬ l ≤ 0 := by omega
               simp only [eatE, if_neg n1, hv2, if_pos (show ct1 1 (h + 6 + fld n (16 * n - (r + 1))) = 0 ∨ 100 < ct1 1 (h + 6 + fld n (16 * n - (r + 1))) by omega)] at e1 e2)
          refine aw_iinc6r dX7_dayOf_323 (by decide) (by decide) rfl (by omega) ?_
          refine aw_goto (tgt := 232) dX7_dayOf_326 (by decide) ?_
          first
            | exact ih _ _ _ _ _ rfl (by omega) (by omega) h3 h4 h5 hF hr e1 e2 ho hs hs0
            | (refine ih (l - min l (ct1 1 (h + 6 + fld n (16 * n - (r + 1))))) _ _ _ _ rfl (by omega) (by omega) (by omega) (by omega) ?_ (hF.up1.up0 (by decide)) ?_ ?_ ?_ ?_ (fun b b0 b1 b9 => ?_) (fun i hi => ?_)
               · rw [aup_s]; omega
               · rw [aup_rn (by decide), aup_r, sh_upA]; exact upA_rgF hr (by omega)
               · rw [aup_rn (by decide), aup_r, sh_upA]; exact e1
               · rw [aup_rn (by decide), aup_r, sh_upA]; exact e2
               · rw [aup_rn (by decide), aup_r]; exact ho.up (by omega) (by omega)
               · rw [aup_rn b0, aup_rn b1]; exact hs b b0 b1 b9
               · rw [aup_n (fun z => hi z.2), aup_rn (by decide)]; exact hs0 i hi)
        · refine gm_7 rfl dX7_dayOf_266 dX7_dayOf_267 rfl ?_
          refine aw_iload dX7_dayOf_270 rfl ?_
          refine aw_iaload dX7_dayOf_272 m_a1 (by omega) (by omega) ?_
          refine aw_bipush dX7_dayOf_273 (by decide) ?_
          refine aw_icmple (tgt := 281) dX7_dayOf_275 (by decide) (fun h275 => ?_) (fun h275 => ?_)
          · have n1 : ¬ l ≤ 0 := by omega
            simp only [eatE, if_neg n1, hv2, if_neg (show ¬ (ct1 1 (h + 6 + fld n (16 * n - (r + 1))) = 0 ∨ 100 < ct1 1 (h + 6 + fld n (16 * n - (r + 1)))) by omega)] at e1 e2
            refine aw_iload dX7_dayOf_281 rfl ?_
            refine gm_256 rfl dX7_dayOf_283 dX7_dayOf_284 rfl ?_
            rw [h5]
            refine aw_isubr dX7_dayOf_287 (by omega) ?_
            refine gm_7 rfl dX7_dayOf_288 dX7_dayOf_289 rfl ?_
            refine aw_iload dX7_dayOf_292 rfl ?_
            refine aw_iaload dX7_dayOf_294 m_a1 (by omega) (by omega) ?_
            rw [show w - (w - l) = l by omega]
            refine aw_mmin dX7_dayOf_295 q1624 q816 q137 q817 (Nat.le_of_ble_eq_true rfl) (by omega) ?_
            refine aw_istore8 dX7_dayOf_298 (by decide) rfl ?_
            refine gm_7 rfl dX7_dayOf_300 dX7_dayOf_301 rfl ?_
            refine aw_iload dX7_dayOf_304 rfl ?_
            refine aw_dup2 dX7_dayOf_306 rfl rfl ?_
            refine aw_iaload dX7_dayOf_307 m_a1 (by omega) (by omega) ?_
            refine aw_iload dX7_dayOf_308 rfl ?_
            refine aw_isubr dX7_dayOf_310 (by omega) ?_
            refine aw_iastore dX7_dayOf_311 m_a1 (by omega) (by omega) ?_
            refine aw_aload_n dX7_dayOf_312 rfl ?_
            refine aw_dup dX7_dayOf_313 rfl ?_
            refine g_X7_256_7 rfl dX7_dayOf_314 m_ob ?_
            rw [aup_rn (by decide), h5]
            refine aw_iload dX7_dayOf_317 rfl ?_
            refine aw_iaddr dX7_dayOf_319 (by omega) ?_
            refine p_X7_256_7 rfl dX7_dayOf_320 m_ob ?_
            try (have n1 : ¬ l ≤ 0 := by omega
                 simp only [eatE, if_neg n1, hv2, if_pos (show ct1 1 (h + 6 + fld n (16 * n - (r + 1))) = 0 ∨ 100 < ct1 1 (h + 6 + fld n (16 * n - (r + 1))) by omega)] at e1 e2)
            refine aw_iinc6r dX7_dayOf_323 (by decide) (by decide) rfl (by omega) ?_
            refine aw_goto (tgt := 232) dX7_dayOf_326 (by decide) ?_
            first
              | exact ih _ _ _ _ _ rfl (by omega) (by omega) h3 h4 h5 hF hr e1 e2 ho hs hs0
              | (refine ih (l - min l (ct1 1 (h + 6 + fld n (16 * n - (r + 1))))) _ _ _ _ rfl (by omega) (by omega) (by omega) (by omega) ?_ (hF.up1.up0 (by decide)) ?_ ?_ ?_ ?_ (fun b b0 b1 b9 => ?_) (fun i hi => ?_)
                 · rw [aup_s]; omega
                 · rw [aup_rn (by decide), aup_r, sh_upA]; exact upA_rgF hr (by omega)
                 · rw [aup_rn (by decide), aup_r, sh_upA]; exact e1
                 · rw [aup_rn (by decide), aup_r, sh_upA]; exact e2
                 · rw [aup_rn (by decide), aup_r]; exact ho.up (by omega) (by omega)
                 · rw [aup_rn b0, aup_rn b1]; exact hs b b0 b1 b9
                 · rw [aup_n (fun z => hi z.2), aup_rn (by decide)]; exact hs0 i hi)
          · refine aw_goto (tgt := 323) dX7_dayOf_278 (by decide) ?_
            try (have n1 : ¬ l ≤ 0 := by omega
                 simp only [eatE, if_neg n1, hv2, if_pos (show ct1 1 (h + 6 + fld n (16 * n - (r + 1))) = 0 ∨ 100 < ct1 1 (h + 6 + fld n (16 * n - (r + 1))) by omega)] at e1 e2)
            refine aw_iinc6r dX7_dayOf_323 (by decide) (by decide) rfl (by omega) ?_
            refine aw_goto (tgt := 232) dX7_dayOf_326 (by decide) ?_
            first
              | exact ih _ _ _ _ _ rfl (by omega) (by omega) h3 h4 h5 hF hr e1 e2 ho hs hs0
              | (refine ih (l - min l (ct1 1 (h + 6 + fld n (16 * n - (r + 1))))) _ _ _ _ rfl (by omega) (by omega) (by omega) (by omega) ?_ (hF.up1.up0 (by decide)) ?_ ?_ ?_ ?_ (fun b b0 b1 b9 => ?_) (fun i hi => ?_)
                 · rw [aup_s]; omega
                 · rw [aup_rn (by decide), aup_r, sh_upA]; exact upA_rgF hr (by omega)
                 · rw [aup_rn (by decide), aup_r, sh_upA]; exact e1
                 · rw [aup_rn (by decide), aup_r, sh_upA]; exact e2
                 · rw [aup_rn (by decide), aup_r]; exact ho.up (by omega) (by omega)
                 · rw [aup_rn b0, aup_rn b1]; exact hs b b0 b1 b9
                 · rw [aup_n (fun z => hi z.2), aup_rn (by decide)]; exact hs0 i hi)
theorem L_m_day3 {ct : Int → Int → Int} {n h y b u : Int} {c : Int → Int} {Q : aPost} {d kc ks : Nat} (hd : 3 ≤ d) (hn : 1 ≤ n ∧ n ≤ 12) (hh : 0 ≤ h ∧ h + 6 + 16 * n ≤ 7578) (hr : rgF n c) (hb : 0 ≤ b ∧ b ≤ 100000000) (hu : 0 ≤ u ∧ u ≤ 100000000) (ec : sh h (ct 1) = c) (eb : ct 1 (h + 1) = b) (eu : ct 1 (h + 2) = u)
    (hQ : ∀ ct' : Int → Int → Int, FC ct' n → ct' 1 = upA (upA (us h (dC n c b u y)) (h + 1) (dB n c b u y)) (h + 2) (dH n c b u) → ct' 0 25 = dAte n c b u y → ct' 0 26 = dCame n c → ct' 0 27 = dStar n c b u y → dfr ct ct' → Q (.inl none) (gM ct')) {ct4 : Int → Int → Int} {x2 x3 x4 x6 x7 x8 : Option aV} (hF4 : FC ct4 n) (b4 : ct4 1 (h + 1) = b + dCame n c) (H4 : ct4 1 (h + 2) = dH n c b u) (w4 : ct4 0 25 = dAte n c b u y) (c4 : ct4 0 26 = dCame n c) (q4 : eqF n (sh h (ct4 1)) (dC n c b u y)) (o4 : ∀ i, (i < h + 6 ∨ h + 6 + 16 * n ≤ i) → i ≠ h + 1 → i ≠ h + 2 → ct4 1 i = ct 1 i) (f4 : dfr ct ct4) :
    AW (mq Q) md_X7_dayOf d kc ks 329 [some (vR 0), some (vI h), x2, x3, x4, some (vI (dWant n c b u)), x6, x7, x8] [] (gM ct4) := by
  have hcm := dCame_bd (n := n) (c := c) (by omega)
  have hne := dEat_bd (n := n) (c := c) (b := b) (u := u) (y := y) (by omega) hr hb.1 hu.1
  have hw : dWant n c b u = (u + (b + dCame n c)) / 10 := rfl
  have hat : dAte n c b u y = dWant n c b u - (dEat n c b u y).2 := rfl
  have hst : 0 ≤ dStar n c b u y ∧ dStar n c b u y ≤ b + dCame n c := by unfold dStar; omega
  have E7 : min ((dWant n c b u - dAte n c b u y) * 10) (b + dCame n c) = dStar n c b u y := by unfold dStar; omega
  refine aw_aload_n dX7_dayOf_329 rfl ?_
  refine aw_iload dX7_dayOf_330 rfl ?_
  refine gm_256 rfl dX7_dayOf_332 dX7_dayOf_333 rfl ?_
  rw [w4]
  refine aw_isubr dX7_dayOf_336 (by omega) ?_
  refine aw_i2l dX7_dayOf_337 ?_
  refine aw_ldc2 (x := 10) dX7_dayOf_338 q1835 (by decide) ?_
  refine aw_lmulr dX7_dayOf_341 (by omega) ?_
  refine gm_7 rfl dX7_dayOf_342 dX7_dayOf_343 rfl ?_
  refine aw_iload_n dX7_dayOf_346 rfl ?_
  refine aw_iconst dX7_dayOf_347 (by decide) ?_
  refine aw_iaddr dX7_dayOf_348 (by omega) ?_
  refine aw_iaload dX7_dayOf_349 m_a1 (by omega) (by omega) ?_
  rw [b4]
  refine aw_i2l dX7_dayOf_350 ?_
  refine aw_mminL dX7_dayOf_351 q1836 q1837 q137 q1838 (Nat.le_of_ble_eq_true rfl) (by omega) ?_
  rw [E7]
  refine aw_l2ir dX7_dayOf_354 (by omega) ?_
  refine p_X7_264_7 rfl dX7_dayOf_355 m_ob ?_
  refine gm_7 rfl dX7_dayOf_358 dX7_dayOf_359 rfl ?_
  refine aw_iload_n dX7_dayOf_362 rfl ?_
  refine aw_iconst dX7_dayOf_363 (by decide) ?_
  refine aw_iaddr dX7_dayOf_364 (by omega) ?_
  refine aw_dup2 dX7_dayOf_365 rfl rfl ?_
  refine aw_iaload dX7_dayOf_366 m_a1 (by omega) (by omega) ?_
  rw [aup_rn (by decide), b4]
  refine gm_264 rfl dX7_dayOf_367 dX7_dayOf_368 rfl ?_
  rw [aup_s]
  refine aw_isubr dX7_dayOf_371 (by omega) ?_
  refine aw_iastore dX7_dayOf_372 m_a1 (by omega) (by omega) ?_
  refine aw_ret dX7_dayOf_373 rfl ?_
  have E6 : b + dCame n c - dStar n c b u y = dB n c b u y := rfl
  rw [E6]
  refine hQ _ (hF4.up0 (by decide)).up1 ?_ ?_ ?_ ?_ (mfr.up0 f4 (by omega)).up1
  · funext i
    rw [aup_r, aup_rn (by decide)]
    by_cases h2 : i = h + 2
    · subst h2; rw [upA_n (by omega), upA_s, H4]
    · rw [upA_n (a := h + 2) h2]
      by_cases h1 : i = h + 1
      · subst h1; rw [upA_s, upA_s]
      · rw [upA_n h1, upA_n h1]
        by_cases hi : h + 6 ≤ i ∧ i < h + 6 + 16 * n
        · have := q4 (i - (h + 6)) (by omega) (by omega)
          unfold sh at this
          rw [show h + 6 + (i - (h + 6)) = i by omega] at this
          exact this
        · unfold us
          rw [o4 i (by omega) h1 h2, dC_out (by omega) (i - (h + 6)) (by omega), ← ec]
          unfold sh
          rw [show h + 6 + (i - (h + 6)) = i by omega]
  · rw [aup_rn (by decide), aup_n (by omega), w4]
  · rw [aup_rn (by decide), aup_n (by omega), c4]
  · rw [aup_rn (by decide), aup_s]
theorem L_m_day2 {ct : Int → Int → Int} {n h y b u : Int} {c : Int → Int} {Q : aPost} {d kc ks : Nat} (hd : 3 ≤ d) (hn : 1 ≤ n ∧ n ≤ 12) (hh : 0 ≤ h ∧ h + 6 + 16 * n ≤ 7578) (hr : rgF n c) (hb : 0 ≤ b ∧ b ≤ 100000000) (hu : 0 ≤ u ∧ u ≤ 100000000) (ec : sh h (ct 1) = c) (eb : ct 1 (h + 1) = b) (eu : ct 1 (h + 2) = u)
    (hQ : ∀ ct' : Int → Int → Int, FC ct' n → ct' 1 = upA (upA (us h (dC n c b u y)) (h + 1) (dB n c b u y)) (h + 2) (dH n c b u) → ct' 0 25 = dAte n c b u y → ct' 0 26 = dCame n c → ct' 0 27 = dStar n c b u y → dfr ct ct' → Q (.inl none) (gM ct')) {ct3 : Int → Int → Int} {f k : Int} {x6 x7 x8 : Option aV} (hx6 : nl (some x6) = true) (hx7 : nl (some x7) = true) (hF3 : FC ct3 n) (b3 : ct3 1 (h + 1) = b + dCame n c) (u3 : ct3 1 (h + 2) = u) (c3 : ct3 0 26 = dCame n c) (q3 : eqF n (sh h (ct3 1)) (dLaid n c y)) (o3 : ∀ i, (i < h + 6 ∨ h + 6 + 16 * n ≤ i) → i ≠ h + 1 → ct3 1 i = ct 1 i) (f3 : dfr ct ct3) :
    AW (mq Q) md_X7_dayOf d kc ks 179 [some (vR 0), some (vI h), some (vI y), some (vI (16 * n)), some (vI f), some (vI k), x6, x7, x8] [] (gM ct3) := by
  have hcm := dCame_bd (n := n) (c := c) (by omega)
  have hne := dEat_bd (n := n) (c := c) (b := b) (u := u) (y := y) (by omega) hr hb.1 hu.1
  have hw : dWant n c b u = (u + (b + dCame n c)) / 10 := rfl
  have hat : dAte n c b u y = dWant n c b u - (dEat n c b u y).2 := rfl
  have r3 : rgF n (sh h (ct3 1)) := q3.symm.rg (dLaid_rg (by omega) hr)
  refine gm_7 rfl dX7_dayOf_179 dX7_dayOf_180 rfl ?_
  refine aw_iload_n dX7_dayOf_183 rfl ?_
  refine aw_iconst dX7_dayOf_184 (by decide) ?_
  refine aw_iaddr dX7_dayOf_185 (by omega) ?_
  refine aw_dup2 dX7_dayOf_186 rfl rfl ?_
  refine aw_iaload dX7_dayOf_187 m_a1 (by omega) (by omega) ?_
  rw [u3]
  refine gm_7 rfl dX7_dayOf_188 dX7_dayOf_189 rfl ?_
  refine aw_iload_n dX7_dayOf_192 rfl ?_
  refine aw_iconst dX7_dayOf_193 (by decide) ?_
  refine aw_iaddr dX7_dayOf_194 (by omega) ?_
  refine aw_iaload dX7_dayOf_195 m_a1 (by omega) (by omega) ?_
  rw [b3]
  refine aw_iaddr dX7_dayOf_196 (by omega) ?_
  refine aw_iastore dX7_dayOf_197 m_a1 (by omega) (by omega) ?_
  refine gm_7 rfl dX7_dayOf_198 dX7_dayOf_199 rfl ?_
  refine aw_iload_n dX7_dayOf_202 rfl ?_
  refine aw_iconst dX7_dayOf_203 (by decide) ?_
  refine aw_iaddr dX7_dayOf_204 (by omega) ?_
  refine aw_iaload dX7_dayOf_205 m_a1 (by omega) (by omega) ?_
  rw [aup_s]
  refine aw_bipush dX7_dayOf_206 (by decide) ?_
  refine aw_idivr dX7_dayOf_208 (by omega) (by omega) ?_
  refine aw_istore5 dX7_dayOf_209 (by decide) rfl ?_
  refine gm_7 rfl dX7_dayOf_211 dX7_dayOf_212 rfl ?_
  refine aw_iload_n dX7_dayOf_215 rfl ?_
  refine aw_iconst dX7_dayOf_216 (by decide) ?_
  refine aw_iaddr dX7_dayOf_217 (by omega) ?_
  refine aw_dup2 dX7_dayOf_218 rfl rfl ?_
  refine aw_iaload dX7_dayOf_219 m_a1 (by omega) (by omega) ?_
  rw [aup_s]
  refine aw_bipush dX7_dayOf_220 (by decide) ?_
  refine aw_iremr dX7_dayOf_222 (by omega) (by omega) ?_
  refine aw_iastore dX7_dayOf_223 m_a1 (by omega) (by omega) ?_
  refine aw_aload_n dX7_dayOf_224 rfl ?_
  refine aw_iconst dX7_dayOf_225 (by decide) ?_
  refine p_X7_256_7 rfl dX7_dayOf_226 m_ob ?_
  refine aw_iconst dX7_dayOf_229 (by decide) ?_
  refine aw_istore6 dX7_dayOf_230 (by decide) rfl ?_
  have ES : eqF n (sh h (aup (aup (aup ct3 1 (h + 2) (u + (b + dCame n c))) 1 (h + 2) ((u + (b + dCame n c)) % 10)) 0 25 0 1)) (dLaid n c y) := by
    rw [aup_rn (by decide), aup_r, aup_r]
    intro i i0 i1
    show upA _ _ _ _ = _
    rw [upA_n (by omega), upA_n (by omega)]
    exact q3 i i0 i1
  have EE := eatE_ext (n := n) (k := nF n) (l := dWant n c b u) (by unfold nF; omega) ES
  rw [← hw]
  refine L_m_eat (ct := aup (aup (aup ct3 1 (h + 2) (u + (b + dCame n c))) 1 (h + 2) ((u + (b + dCame n c)) % 10)) 0 25 0) (R := dEat n c b u y) rfl (by omega) hn hh (by omega) (fun ct4 k4 x7 x8 hF4 q4 w4 o4 m4 m40 => ?_) (nF n) (dWant n c b u) _ _ _ _ hx7 (by unfold nF; omega) (by omega) (by omega) (by omega) (by rw [aup_s]; omega) ((hF3.up1.up1).up0 (by decide)) (ES.symm.rg (dLaid_rg (by omega) hr)) EE.1 EE.2 (fun _ _ => rfl) (fun _ _ _ _ => rfl) (fun _ _ => rfl)
  refine L_m_day3 hd hn hh hr hb hu ec eb eu hQ hF4 ?_ ?_ w4 ?_ q4 (fun i hi h1 h2 => ?_) ⟨fun i b0 b1 b9 => ?_, fun i h1 h2 h3 h4 => ?_⟩
  · rw [o4 _ (by omega), aup_rn (by decide), aup_n (by omega), aup_n (by omega), b3]
  · rw [o4 _ (by omega), aup_rn (by decide), aup_s]; rfl
  · rw [m40 _ (by decide), aup_n (by omega), aup_rn (by decide), aup_rn (by decide), c3]
  · rw [o4 _ hi, aup_rn (by decide), aup_n (by omega), aup_n (by omega), o3 i hi h1]
  · rw [m4 i b0 b1 b9, aup_rn b0, aup_rn b1, aup_rn b1, f3.1 i b0 b1 b9]
  · rw [m40 i h2, aup_n (by omega), aup_rn (by decide), aup_rn (by decide), f3.2 i h1 h2 h3 h4]
theorem L_m_day1 {ct : Int → Int → Int} {n h y b u : Int} {c : Int → Int} {Q : aPost} {d kc ks : Nat} (hd : 3 ≤ d) (hn : 1 ≤ n ∧ n ≤ 12) (hh : 0 ≤ h ∧ h + 6 + 16 * n ≤ 7578) (hr : rgF n c) (hb : 0 ≤ b ∧ b ≤ 100000000) (hu : 0 ≤ u ∧ u ≤ 100000000) (ec : sh h (ct 1) = c) (eb : ct 1 (h + 1) = b) (eu : ct 1 (h + 2) = u)
    (hQ : ∀ ct' : Int → Int → Int, FC ct' n → ct' 1 = upA (upA (us h (dC n c b u y)) (h + 1) (dB n c b u y)) (h + 2) (dH n c b u) → ct' 0 25 = dAte n c b u y → ct' 0 26 = dCame n c → ct' 0 27 = dStar n c b u y → dfr ct ct' → Q (.inl none) (gM ct')) {ct1 : Int → Int → Int} {f : Int} {x5 x6 x7 x8 : Option aV} (hx5 : nl (some x5) = true) (hx6 : nl (some x6) = true) (hx7 : nl (some x7) = true) (e : ct 1 h = n) (hF1 : Fok ct1) (c1 : ct1 0 26 = dCame n c) (q1 : eqF n (sh h (ct1 1)) (ageC n c)) (o1 : outH h n (ct 1) (ct1 1)) (f1 : dfr ct ct1) (hy : -100 ≤ y ∧ y ≤ 100) :
    AW (mq Q) md_X7_dayOf d kc ks 97 [some (vR 0), some (vI h), some (vI y), some (vI (16 * n)), some (vI f), x5, x6, x7, x8] [] (gM ct1) := by
  have hcm := dCame_bd (n := n) (c := c) (by omega)
  have hne := dEat_bd (n := n) (c := c) (b := b) (u := u) (y := y) (by omega) hr hb.1 hu.1
  have hw : dWant n c b u = (u + (b + dCame n c)) / 10 := rfl
  have hat : dAte n c b u y = dWant n c b u - (dEat n c b u y).2 := rfl
  have n1 : ct1 1 h = n := by rw [o1 h (by omega)]; exact e
  have b1 : ct1 1 (h + 1) = b := by rw [o1 _ (by omega)]; exact eb
  have u1 : ct1 1 (h + 2) = u := by rw [o1 _ (by omega)]; exact eu
  refine gm_7 rfl dX7_dayOf_97 dX7_dayOf_98 rfl ?_
  refine aw_iload_n dX7_dayOf_101 rfl ?_
  refine aw_iconst dX7_dayOf_102 (by decide) ?_
  refine aw_iaddr dX7_dayOf_103 (by omega) ?_
  refine aw_dup2 dX7_dayOf_104 rfl rfl ?_
  refine aw_iaload dX7_dayOf_105 m_a1 (by omega) (by omega) ?_
  rw [b1]
  refine gm_253 rfl dX7_dayOf_106 dX7_dayOf_107 rfl ?_
  rw [c1]
  refine aw_iaddr dX7_dayOf_110 (by omega) ?_
  refine aw_iastore dX7_dayOf_111 m_a1 (by omega) (by omega) ?_
  refine aw_aload_n dX7_dayOf_112 rfl ?_
  refine gm_7 rfl dX7_dayOf_113 dX7_dayOf_114 rfl ?_
  refine aw_iload_n dX7_dayOf_117 rfl ?_
  refine aw_iaload dX7_dayOf_118 m_a1 (by omega) (by omega) ?_
  rw [aup_n (by omega), n1]
  refine c_X7_247 rfl dX7_dayOf_119 m_ob (Nat.le_of_ble_eq_true rfl) (by omega) (C_m_laysFrames hF1.up1.ok hn (fun ct2 hF2 r2 m2 => ?_))
  refine aK_v ?_
  refine aw_iload_n dX7_dayOf_122 rfl ?_
  refine aw_istore4 dX7_dayOf_123 (by decide) rfl ?_
  refine aw_iconst dX7_dayOf_125 (by decide) ?_
  refine aw_istore5 dX7_dayOf_126 (by decide) rfl ?_
  refine L_m_lay (ct := ct2) (by omega) hn hh (dLaid n c y) (fun ct3 e3 k3 x6 hx6 hF3 q3 o3 m3 => ?_) (nF n) _ _ _ _ hx6 (by unfold nF; omega) (by omega) (by omega) (by omega) hF2 ?_ (fun _ _ => rfl) mfr.rf
  · refine L_m_day2 hd hn hh hr hb hu ec eb eu hQ hx6 hx7 hF3 ?_ ?_ ?_ q3 (fun i hi h1 => ?_) ((f1.up1.m m2).m m3)
    · rw [o3 _ (by omega), r2, aup_s]
    · rw [o3 _ (by omega), r2, aup_n (by omega), u1]
    · rw [m3.2 _ (by decide), m2.2 _ (by decide), aup_rn (by decide), c1]
    · rw [o3 _ hi, r2, aup_n (by omega), o1 i hi]
  · refine layE_ext (by unfold nF; omega) (eqF.trans ?_ q1)
    rw [r2, aup_r]
    intro i i0 i1
    exact upA_n (by omega)
theorem C_m_dayOf {ct : Int → Int → Int} {n h y : Int} {Q : aPost} (hF : Fok ct) (e : ct 1 h = n) (hn : 1 ≤ n ∧ n ≤ 12) (hh : 0 ≤ h ∧ h + 6 + 16 * n ≤ 7578) (hr : rgF n (sh h (ct 1))) (hy : -100 ≤ y ∧ y ≤ 100) (hb : 0 ≤ ct 1 (h + 1) ∧ ct 1 (h + 1) ≤ 100000000) (hu : 0 ≤ ct 1 (h + 2) ∧ ct 1 (h + 2) ≤ 100000000)
    (hQ : ∀ ct' : Int → Int → Int, FC ct' n → ct' 1 = upA (upA (us h (dC n (sh h (ct 1)) (ct 1 (h + 1)) (ct 1 (h + 2)) y)) (h + 1) (dB n (sh h (ct 1)) (ct 1 (h + 1)) (ct 1 (h + 2)) y)) (h + 2) (dH n (sh h (ct 1)) (ct 1 (h + 1)) (ct 1 (h + 2))) → ct' 0 25 = dAte n (sh h (ct 1)) (ct 1 (h + 1)) (ct 1 (h + 2)) y → ct' 0 26 = dCame n (sh h (ct 1)) → ct' 0 27 = dStar n (sh h (ct 1)) (ct 1 (h + 1)) (ct 1 (h + 2)) y → dfr ct ct' → Q (.inl none) (gM ct')) : AMet md_X7_dayOf 3 0 0 [vR 0, vI h, vI y] (gM ct) Q := by
  refine AMet.go (L := [some (vR 0), some (vI h), some (vI y), none, none, none, none, none, none]) mok_X7_dayOf (Nat.le_of_ble_eq_true rfl) rfl ?_
  refine aw_bipush dX7_dayOf_0 (by decide) ?_
  refine gm_7 rfl dX7_dayOf_2 dX7_dayOf_3 rfl ?_
  refine aw_iload_n dX7_dayOf_6 rfl ?_
  refine aw_iaload dX7_dayOf_7 m_a1 (by omega) (by omega) ?_
  rw [e]
  refine aw_imulr dX7_dayOf_8 (by omega) ?_
  refine aw_istore3 dX7_dayOf_9 (by decide) rfl ?_
  refine aw_aload_n dX7_dayOf_10 rfl ?_
  refine aw_iconst dX7_dayOf_11 (by decide) ?_
  refine p_X7_253_7 rfl dX7_dayOf_12 m_ob ?_
  refine aw_iload_n dX7_dayOf_15 rfl ?_
  refine aw_bipush dX7_dayOf_16 (by decide) ?_
  refine aw_iaddr dX7_dayOf_18 (by omega) ?_
  refine aw_istore4 dX7_dayOf_19 (by decide) rfl ?_
  refine L_m_age (ct := aup ct 0 26 0) (c := sh h (ct 1)) hn hh hr (fun ct1 f q1 c1 o1 f1 g9 g24 => ?_) (nF n) 0 _ _ (by omega) (by unfold nF; omega) (fun i i0 i1 => by omega) (fun i i0 i1 => by rw [aup_rn (by decide)]; rfl) (by rw [aup_s]; rfl) (fun _ _ => rfl) dfr.rf rfl rfl
  refine L_m_day1 (ct := ct) (by omega) hn hh hr hb hu rfl rfl rfl hQ rfl rfl rfl e (FC.ok (FC.row hF ?_ ?_)) c1 q1 (fun i hi => ?_) ⟨fun i b0 b1 b9 => ?_, fun i h1 h2 h3 h4 => ?_⟩ hy
  · rw [g24, aup_n (by omega)]
  · rw [g9, aup_rn (by decide)]
  · rw [o1 i hi, aup_rn (by decide)]
  · rw [f1.1 i b0 b1 b9, aup_rn b0]
  · rw [f1.2 i h1 h2 h3 h4, aup_n (fun z => h3 z.2)]
