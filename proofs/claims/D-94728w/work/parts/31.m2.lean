set_option maxRecDepth 100000
/-! BeeYardModel, 2: frames in their order; stores; sums of a hive -/
def FC (ct : Int → Int → Int) (n : Int) : Prop := ct 0 24 = n ∧ ∀ j : Int, 0 ≤ j → j < n → ct 9 j = ordF n j
abbrev Fok (ct : Int → Int → Int) : Prop := FC ct (ct 0 24)
/-- all but the row of the frames' order (and the big row) is as it was -/
abbrev mfr (ct ct' : Int → Int → Int) : Prop := (∀ b, b ≠ 0 → b ≠ 1 → b ≠ 9 → ct' b = ct b) ∧ ∀ i, i ≠ 24 → ct' 0 i = ct 0 i
theorem FC.row {ct ct' : Int → Int → Int} {n : Int} (h : FC ct n) (h0 : ct' 0 24 = ct 0 24) (h9 : ct' 9 = ct 9) : FC ct' n := ⟨by rw [h0]; exact h.1, fun j j0 j1 => by rw [h9]; exact h.2 j j0 j1⟩
theorem FC.up1 {ct : Int → Int → Int} {n i v : Int} (h : FC ct n) : FC (aup ct 1 i v) n := h.row (by rw [aup_rn (by decide)]) (aup_rn (by decide))
theorem FC.up0 {ct : Int → Int → Int} {n i v : Int} (h : FC ct n) (hi : i ≠ 24) : FC (aup ct 0 i v) n := h.row (by rw [aup_n (fun z => hi z.2.symm)]) (aup_rn (by decide))
theorem FC.ok {ct : Int → Int → Int} {n : Int} (h : FC ct n) : Fok ct := by
  have e := h.1
  unfold Fok
  rw [e]
  exact h
theorem mfr.rf {ct : Int → Int → Int} : mfr ct ct := ⟨fun _ _ _ _ => rfl, fun _ _ => rfl⟩
theorem mfr.up1 {ct ct' : Int → Int → Int} {i v : Int} (h : mfr ct ct') : mfr ct (aup ct' 1 i v) := ⟨fun b h0 h1 h9 => by rw [aup_rn h1]; exact h.1 b h0 h1 h9, fun j hj => by rw [aup_rn (by decide)]; exact h.2 j hj⟩
theorem mfr.trans {a b c : Int → Int → Int} (h : mfr a b) (k : mfr b c) : mfr a c := ⟨fun x h0 h1 h9 => (k.1 x h0 h1 h9).trans (h.1 x h0 h1 h9), fun i hi => (k.2 i hi).trans (h.2 i hi)⟩
theorem L_m_frameOf {G : aG} {n k : Int} {Q : aPost} {d kc ks : Nat} (hn : 1 ≤ n ∧ n ≤ 12) (hk : 0 ≤ k ∧ k < n) (hQ : Q (.inl (some (vI (ordF n k)))) G) : ∀ (r : Nat) (l f : Int), f + r = n + 1 → 0 ≤ f → 0 ≤ l → f ≤ (n - 1) / 2 + 1 → (f = 0 → l = k) → (1 ≤ f → l = k - (2 * f - 1)) →
    AW (mq Q) md_X7_frameOf d kc ks 11 [some (vI n), some (vI k), some (vI ((n - 1) / 2)), some (vI l), some (vI f)] [] G := by
  intro r
  induction r with
  | zero => intro l f h1 h2 h3 h4 h5 h6; exfalso; omega
  | succ r ih =>
    intro l f h1 h2 h3 h4 h5 h6
    refine aw_iload dX7_frameOf_11 rfl ?_
    refine aw_iload_n dX7_frameOf_13 rfl ?_
    refine aw_icmpgt (tgt := 67) dX7_frameOf_14 (by decide) (fun h14 => ?_) (fun h14 => ?_)
    · refine aw_iconst dX7_frameOf_67 (by decide) ?_
      refine aw_ireturn dX7_frameOf_68 rfl ?_
      exfalso; omega
    · refine aw_iload_n dX7_frameOf_17 rfl ?_
      refine aw_iload dX7_frameOf_18 rfl ?_
      refine aw_iaddr dX7_frameOf_20 (by omega) ?_
      refine aw_iload_n dX7_frameOf_21 rfl ?_
      refine aw_icmpge (tgt := 37) dX7_frameOf_22 (by decide) (fun h22 => ?_) (fun h22 => ?_)
      · refine aw_iload dX7_frameOf_37 rfl ?_
        refine aw_ifle (tgt := 61) dX7_frameOf_39 (by decide) (fun h39 => ?_) (fun h39 => ?_)
        · refine aw_iinc4r dX7_frameOf_61 (by decide) (by decide) rfl (by omega) ?_
          refine aw_goto (tgt := 11) dX7_frameOf_64 (by decide) ?_
          exact ih _ _ (by omega) (by omega) (by omega) (by omega) (fun _ => by omega) (fun _ => by omega)
        · refine aw_iload_n dX7_frameOf_42 rfl ?_
          refine aw_iload dX7_frameOf_43 rfl ?_
          refine aw_isubr dX7_frameOf_45 (by omega) ?_
          refine aw_iflt (tgt := 61) dX7_frameOf_46 (by decide) (fun h46 => ?_) (fun h46 => ?_)
          · refine aw_iinc4r dX7_frameOf_61 (by decide) (by decide) rfl (by omega) ?_
            refine aw_goto (tgt := 11) dX7_frameOf_64 (by decide) ?_
            exact ih _ _ (by omega) (by omega) (by omega) (by omega) (fun _ => by omega) (fun _ => by omega)
          · refine aw_iload_n dX7_frameOf_49 rfl ?_
            refine aw_ifne (tgt := 58) dX7_frameOf_50 (by decide) (fun h50 => ?_) (fun h50 => ?_)
            · refine aw_iinc3r dX7_frameOf_58 (by decide) (by decide) rfl (by omega) ?_
              refine aw_iinc4r dX7_frameOf_61 (by decide) (by decide) rfl (by omega) ?_
              refine aw_goto (tgt := 11) dX7_frameOf_64 (by decide) ?_
              exact ih _ _ (by omega) (by omega) (by omega) (by omega) (fun _ => by omega) (fun _ => by omega)
            · refine aw_iload_n dX7_frameOf_53 rfl ?_
              refine aw_iload dX7_frameOf_54 rfl ?_
              refine aw_isubr dX7_frameOf_56 (by omega) ?_
              refine aw_ireturn dX7_frameOf_57 rfl ?_
              have e : ordF n k = (n - 1) / 2 - f := by unfold ordF; split <;> omega
              rw [e] at hQ
              exact hQ
      · refine aw_iload_n dX7_frameOf_25 rfl ?_
        refine aw_ifne (tgt := 34) dX7_frameOf_26 (by decide) (fun h26 => ?_) (fun h26 => ?_)
        · refine aw_iinc3r dX7_frameOf_34 (by decide) (by decide) rfl (by omega) ?_
          refine aw_iload dX7_frameOf_37 rfl ?_
          refine aw_ifle (tgt := 61) dX7_frameOf_39 (by decide) (fun h39 => ?_) (fun h39 => ?_)
          · refine aw_iinc4r dX7_frameOf_61 (by decide) (by decide) rfl (by omega) ?_
            refine aw_goto (tgt := 11) dX7_frameOf_64 (by decide) ?_
            exact ih _ _ (by omega) (by omega) (by omega) (by omega) (fun _ => by omega) (fun _ => by omega)
          · refine aw_iload_n dX7_frameOf_42 rfl ?_
            refine aw_iload dX7_frameOf_43 rfl ?_
            refine aw_isubr dX7_frameOf_45 (by omega) ?_
            refine aw_iflt (tgt := 61) dX7_frameOf_46 (by decide) (fun h46 => ?_) (fun h46 => ?_)
            · refine aw_iinc4r dX7_frameOf_61 (by decide) (by decide) rfl (by omega) ?_
              refine aw_goto (tgt := 11) dX7_frameOf_64 (by decide) ?_
              exact ih _ _ (by omega) (by omega) (by omega) (by omega) (fun _ => by omega) (fun _ => by omega)
            · refine aw_iload_n dX7_frameOf_49 rfl ?_
              refine aw_ifne (tgt := 58) dX7_frameOf_50 (by decide) (fun h50 => ?_) (fun h50 => ?_)
              · refine aw_iinc3r dX7_frameOf_58 (by decide) (by decide) rfl (by omega) ?_
                refine aw_iinc4r dX7_frameOf_61 (by decide) (by decide) rfl (by omega) ?_
                refine aw_goto (tgt := 11) dX7_frameOf_64 (by decide) ?_
                exact ih _ _ (by omega) (by omega) (by omega) (by omega) (fun _ => by omega) (fun _ => by omega)
              · refine aw_iload_n dX7_frameOf_53 rfl ?_
                refine aw_iload dX7_frameOf_54 rfl ?_
                refine aw_isubr dX7_frameOf_56 (by omega) ?_
                refine aw_ireturn dX7_frameOf_57 rfl ?_
                have e : ordF n k = (n - 1) / 2 - f := by unfold ordF; split <;> omega
                rw [e] at hQ
                exact hQ
        · refine aw_iload_n dX7_frameOf_29 rfl ?_
          refine aw_iload dX7_frameOf_30 rfl ?_
          refine aw_iaddr dX7_frameOf_32 (by omega) ?_
          refine aw_ireturn dX7_frameOf_33 rfl ?_
          have e : ordF n k = (n - 1) / 2 + f := by unfold ordF; split <;> omega
          rw [e] at hQ
          exact hQ
theorem C_m_frameOf {G : aG} {n k : Int} {Q : aPost} (hn : 1 ≤ n ∧ n ≤ 12) (hk : 0 ≤ k ∧ k < n) (hQ : Q (.inl (some (vI (ordF n k)))) G) : AMet md_X7_frameOf 1 0 0 [vI n, vI k] G Q := by
  refine AMet.go (L := [some (vI n), some (vI k), none, none, none]) mok_X7_frameOf (Nat.le_of_ble_eq_true rfl) rfl ?_
  refine aw_iload_n dX7_frameOf_0 rfl ?_
  refine aw_iconst dX7_frameOf_1 (by decide) ?_
  refine aw_isubr dX7_frameOf_2 (by omega) ?_
  refine aw_iconst dX7_frameOf_3 (by decide) ?_
  refine aw_idivr dX7_frameOf_4 (by omega) (by omega) ?_
  refine aw_istore2 dX7_frameOf_5 (by decide) rfl ?_
  refine aw_iload_n dX7_frameOf_6 rfl ?_
  refine aw_istore3 dX7_frameOf_7 (by decide) rfl ?_
  refine aw_iconst dX7_frameOf_8 (by decide) ?_
  refine aw_istore4 dX7_frameOf_9 (by decide) rfl ?_
  exact L_m_frameOf hn hk hQ (n + 1).toNat _ _ (by omega) (by omega) (by omega) (by omega) (fun _ => rfl) (fun h => by omega)
theorem L_m_laysFrames {ct : Int → Int → Int} {n : Int} {Q : aPost} {d kc ks : Nat} (hd : 2 ≤ d) (hn : 1 ≤ n ∧ n ≤ 12) (hQ : ∀ ct' : Int → Int → Int, FC ct' n → ct' 1 = ct 1 → mfr ct ct' → Q (.inl none) (gM ct')) : ∀ (r : Nat) (k : Int) (ct1 : Int → Int → Int), k + r = n → 0 ≤ k → ct1 0 24 = n → (∀ j, 0 ≤ j → j < k → ct1 9 j = ordF n j) → ct1 1 = ct 1 → mfr ct ct1 →
    AW (mq Q) md_X7_laysFrames d kc ks 16 [some (vR 0), some (vI n), some (vI k)] [] (gM ct1) := by
  intro r
  induction r with
  | zero =>
    intro k ct1 h1 h2 h3 h4 h5 h6
    refine aw_iload_n dX7_laysFrames_16 rfl ?_
    refine aw_iload_n dX7_laysFrames_17 rfl ?_
    refine aw_icmpge (tgt := 38) dX7_laysFrames_18 (by decide) (fun h18 => ?_) (fun h18 => ?_)
    · refine aw_ret dX7_laysFrames_38 rfl ?_
      exact hQ ct1 ⟨h3, fun j j0 j1 => h4 j j0 (by omega)⟩ h5 h6
    · exfalso; omega
  | succ r ih =>
    intro k ct1 h1 h2 h3 h4 h5 h6
    refine aw_iload_n dX7_laysFrames_16 rfl ?_
    refine aw_iload_n dX7_laysFrames_17 rfl ?_
    refine aw_icmpge (tgt := 38) dX7_laysFrames_18 (by decide) (fun h18 => ?_) (fun h18 => ?_)
    · exfalso; omega
    · refine gm_47 rfl dX7_laysFrames_21 dX7_laysFrames_22 rfl ?_
      refine aw_iload_n dX7_laysFrames_25 rfl ?_
      refine aw_iload_n dX7_laysFrames_26 rfl ?_
      refine aw_iload_n dX7_laysFrames_27 rfl ?_
      refine c_X7_244 rfl dX7_laysFrames_28  (Nat.le_of_ble_eq_true rfl) (by omega) (C_m_frameOf hn (by omega) ?_)
      refine aK_i ?_
      refine aw_iastore dX7_laysFrames_31 m_a9 (by omega) (by omega) ?_
      refine aw_iinc2r dX7_laysFrames_32 (by decide) (by decide) rfl (by omega) ?_
      refine aw_goto (tgt := 16) dX7_laysFrames_35 (by decide) ?_
      refine ih _ _ (by omega) (by omega) ?_ (fun j j0 j1 => ?_) ?_ ⟨fun b b0 b1 b9 => ?_, fun i hi => ?_⟩
      · rw [aup_rn (by decide)]; exact h3
      · by_cases hj : j = k
        · subst hj; rw [aup_s]
        · rw [aup_n (fun z => hj z.2)]
          exact h4 j j0 (by omega)
      · rw [aup_rn (by decide)]; exact h5
      · rw [aup_rn b9]; exact h6.1 b b0 b1 b9
      · rw [aup_rn (by decide)]; exact h6.2 i hi
theorem C_m_laysFrames {ct : Int → Int → Int} {n : Int} {Q : aPost} (hF : Fok ct) (hn : 1 ≤ n ∧ n ≤ 12) (hQ : ∀ ct' : Int → Int → Int, FC ct' n → ct' 1 = ct 1 → mfr ct ct' → Q (.inl none) (gM ct')) : AMet md_X7_laysFrames 2 0 0 [vR 0, vI n] (gM ct) Q := by
  refine AMet.go (L := [some (vR 0), some (vI n), none]) mok_X7_laysFrames (Nat.le_of_ble_eq_true rfl) rfl ?_
  refine gm_241 rfl dX7_laysFrames_0 dX7_laysFrames_1 rfl ?_
  refine aw_iload_n dX7_laysFrames_4 rfl ?_
  refine aw_icmpne (tgt := 9) dX7_laysFrames_5 (by decide) (fun h5 => ?_) (fun h5 => ?_)
  · refine aw_aload_n dX7_laysFrames_9 rfl ?_
    refine aw_iload_n dX7_laysFrames_10 rfl ?_
    refine p_X7_241_7 rfl dX7_laysFrames_11 m_ob ?_
    refine aw_iconst dX7_laysFrames_14 (by decide) ?_
    refine aw_istore2 dX7_laysFrames_15 (by decide) rfl ?_
    refine L_m_laysFrames (ct := ct) (by omega) hn hQ n.toNat _ _ (by omega) (by omega) ?_ (fun j j0 j1 => by omega) ?_ ⟨fun b b0 b1 b9 => ?_, fun i hi => ?_⟩
    · rw [aup_s]
    · rw [aup_rn (by decide)]
    · rw [aup_rn b0]
    · rw [aup_n (fun z => hi z.2)]
  · refine aw_ret dX7_laysFrames_8 rfl ?_
    have e : ct 0 24 = n := by omega
    unfold Fok at hF
    rw [e] at hF
    exact hQ ct hF rfl mfr.rf
theorem C_m_fieldOf {ct : Int → Int → Int} {n h k : Int} {Q : aPost} (hF : FC ct n) (hn : 1 ≤ n ∧ n ≤ 12) (hh : 0 ≤ h ∧ h ≤ 7578) (hk : 0 ≤ k ∧ k < 16 * n) (hQ : Q (.inl (some (vI (h + 6 + fld n k)))) (gM ct)) : AMet md_X7_fieldOf 1 0 0 [vR 0, vI h, vI k] (gM ct) Q := by
  refine AMet.go (L := [some (vR 0), some (vI h), some (vI k)]) mok_X7_fieldOf (Nat.le_of_ble_eq_true rfl) rfl ?_
  have o1 := ordF_in (n := n) (j := k / 16) (by omega) (by omega)
  have o2 := hF.2 (k / 16) (by omega) (by omega)
  refine aw_iload_n dX7_fieldOf_0 rfl ?_
  refine aw_bipush dX7_fieldOf_1 (by decide) ?_
  refine aw_iaddr dX7_fieldOf_3 (by omega) ?_
  refine aw_bipush dX7_fieldOf_4 (by decide) ?_
  refine gm_47 rfl dX7_fieldOf_6 dX7_fieldOf_7 rfl ?_
  refine aw_iload_n dX7_fieldOf_10 rfl ?_
  refine aw_bipush dX7_fieldOf_11 (by decide) ?_
  refine aw_idivr dX7_fieldOf_13 (by omega) (by omega) ?_
  refine aw_iaload dX7_fieldOf_14 m_a9 (by omega) (by omega) ?_
  refine aw_imulr dX7_fieldOf_15 (by omega) ?_
  refine aw_iaddr dX7_fieldOf_16 (by omega) ?_
  refine aw_iload_n dX7_fieldOf_17 rfl ?_
  refine aw_bipush dX7_fieldOf_18 (by decide) ?_
  refine aw_iremr dX7_fieldOf_20 (by omega) (by omega) ?_
  refine aw_iaddr dX7_fieldOf_21 (by omega) ?_
  refine aw_ireturn dX7_fieldOf_22 rfl ?_
  have e : h + 6 + 16 * ct 9 (k / 16) + k % 16 = h + 6 + fld n k := by rw [o2]; unfold fld; omega
  rw [e]
  exact hQ
theorem L_m_stores {ct : Int → Int → Int} {n h t : Int} {Q : aPost} {d kc ks : Nat} (hd : 4 ≤ d) (hn : 1 ≤ n ∧ n ≤ 12) (hh : 0 ≤ h ∧ h + 6 + 16 * n ≤ 7578) (R : (Int → Int) × Int)
    (hQ : ∀ ct' : Int → Int → Int, FC ct' n → ct' 1 = us h R.1 → mfr ct ct' → Q (.inl (some (vI R.2))) (gM ct')) : ∀ (r : Nat) (k l : Int) (ct1 : Int → Int → Int) (x5 x6 : Option aV), nl (some x5) = true → k + 1 = r → k < 16 * n → 0 ≤ l → l < 2147483648 → FC ct1 n → rgF n (sh h (ct1 1)) →
    stor n r (sh h (ct1 1)) l = R → mfr ct ct1 →
    AW (mq Q) md_X7_stores d kc ks 25 [some (vR 0), some (vI h), some (vI t), some (vI l), some (vI k), x5, x6] [] (gM ct1) := by
  intro r
  induction r with
  | zero =>
    intro k l ct1 x5 x6 hx5 h1 h2 h3 h4 hF hr e1 hs
    refine aw_iload dX7_stores_25 rfl ?_
    refine aw_iflt (tgt := 97) dX7_stores_27 (by decide) (fun h27 => ?_) (fun h27 => ?_)
    · refine aw_iload_n dX7_stores_97 rfl ?_
      refine aw_ireturn dX7_stores_98 rfl ?_
      simp only [stor] at e1
      subst e1
      exact hQ ct1 hF us_sh.symm hs
    · exfalso; omega
  | succ r ih =>
    intro k l ct1 x5 x6 hx5 h1 h2 h3 h4 hF hr e1 hs
    have hk : k = r := by omega
    subst hk
    have hf := fld_in (n := n) (k := r) (by omega) (by omega)
    have hv : 0 ≤ ct1 1 (h + 6 + fld n r) ∧ ct1 1 (h + 6 + fld n r) ≤ 121 := hr (fld n r) hf.1 hf.2
    have hv2 : sh h (ct1 1) (fld n r) = ct1 1 (h + 6 + fld n r) := rfl
    refine aw_iload dX7_stores_25 rfl ?_
    refine aw_iflt (tgt := 97) dX7_stores_27 (by decide) (fun h27 => ?_) (fun h27 => ?_)
    · exfalso; omega
    · refine aw_iload_n dX7_stores_30 rfl ?_
      refine aw_ifle (tgt := 97) dX7_stores_31 (by decide) (fun h31 => ?_) (fun h31 => ?_)
      · refine aw_iload_n dX7_stores_97 rfl ?_
        refine aw_ireturn dX7_stores_98 rfl ?_
        simp only [stor, if_pos h31] at e1
        subst e1
        exact hQ ct1 hF us_sh.symm hs
      · refine aw_aload_n dX7_stores_34 rfl ?_
        refine aw_iload_n dX7_stores_35 rfl ?_
        refine aw_iload dX7_stores_36 rfl ?_
        refine c_X7_250 rfl dX7_stores_38 m_ob (Nat.le_of_ble_eq_true rfl) (by omega) (C_m_fieldOf hF hn (by omega) (by omega) ?_)
        refine aK_i ?_
        refine aw_istore5 dX7_stores_41 (by decide) rfl ?_
        refine gm_7 rfl dX7_stores_43 dX7_stores_44 rfl ?_
        refine aw_iload dX7_stores_47 rfl ?_
        refine aw_iaload dX7_stores_49 m_a1 (by omega) (by omega) ?_
        refine aw_bipush dX7_stores_50 (by decide) ?_
        refine aw_icmplt (tgt := 58) dX7_stores_52 (by decide) (fun h52 => ?_) (fun h52 => ?_)
        · have n31 : ¬ l ≤ 0 := by omega
          simp only [stor, if_neg n31, hv2, if_neg (show ¬ 100 ≤ ct1 1 (h + 6 + fld n r) by omega)] at e1
          refine aw_iload_n dX7_stores_58 rfl ?_
          refine aw_bipush dX7_stores_59 (by decide) ?_
          refine gm_7 rfl dX7_stores_61 dX7_stores_62 rfl ?_
          refine aw_iload dX7_stores_65 rfl ?_
          refine aw_iaload dX7_stores_67 m_a1 (by omega) (by omega) ?_
          refine aw_isubr dX7_stores_68 (by omega) ?_
          refine aw_mmin dX7_stores_69 q1624 q816 q137 q817 (Nat.le_of_ble_eq_true rfl) (by omega) ?_
          refine aw_istore6 dX7_stores_72 (by decide) rfl ?_
          refine gm_7 rfl dX7_stores_74 dX7_stores_75 rfl ?_
          refine aw_iload dX7_stores_78 rfl ?_
          refine aw_dup2 dX7_stores_80 rfl rfl ?_
          refine aw_iaload dX7_stores_81 m_a1 (by omega) (by omega) ?_
          refine aw_iload dX7_stores_82 rfl ?_
          refine aw_iaddr dX7_stores_84 (by omega) ?_
          refine aw_iastore dX7_stores_85 m_a1 (by omega) (by omega) ?_
          refine aw_iload_n dX7_stores_86 rfl ?_
          refine aw_iload dX7_stores_87 rfl ?_
          refine aw_isubr dX7_stores_89 (by omega) ?_
          refine aw_istore3 dX7_stores_90 (by decide) rfl ?_
          refine aw_iinc4r dX7_stores_91 (by decide) (by decide) rfl (by omega) ?_
          refine aw_goto (tgt := 25) dX7_stores_94 (by decide) ?_
          first
            | exact ih _ _ _ _ _ rfl (by omega) (by omega) (by omega) (by omega) hF hr e1 hs
            | (refine ih _ _ _ _ _ rfl (by omega) (by omega) (by omega) (by omega) hF.up1 ?_ ?_ hs.up1
               · rw [aup_r, sh_upA]; exact upA_rgF hr (by omega)
               · rw [aup_r, sh_upA]; exact e1)
        · have n31 : ¬ l ≤ 0 := by omega
          simp only [stor, if_neg n31, hv2, if_pos (show 100 ≤ ct1 1 (h + 6 + fld n r) by omega)] at e1
          refine aw_goto (tgt := 91) dX7_stores_55 (by decide) ?_
          refine aw_iinc4r dX7_stores_91 (by decide) (by decide) rfl (by omega) ?_
          refine aw_goto (tgt := 25) dX7_stores_94 (by decide) ?_
          first
            | exact ih _ _ _ _ _ rfl (by omega) (by omega) (by omega) (by omega) hF hr e1 hs
            | (refine ih _ _ _ _ _ rfl (by omega) (by omega) (by omega) (by omega) hF.up1 ?_ ?_ hs.up1
               · rw [aup_r, sh_upA]; exact upA_rgF hr (by omega)
               · rw [aup_r, sh_upA]; exact e1)
theorem C_m_stores {ct : Int → Int → Int} {n h t : Int} {Q : aPost} (hF : Fok ct) (e : ct 1 h = n) (hn : 1 ≤ n ∧ n ≤ 12) (hh : 0 ≤ h ∧ h + 6 + 16 * n ≤ 7578) (ht : 0 ≤ t ∧ t < 2147483648) (hr : rgF n (sh h (ct 1)))
    (hQ : ∀ ct' : Int → Int → Int, FC ct' n → ct' 1 = us h (stor n (nF n) (sh h (ct 1)) t).1 → mfr ct ct' → Q (.inl (some (vI (stor n (nF n) (sh h (ct 1)) t).2))) (gM ct')) : AMet md_X7_stores 5 0 0 [vR 0, vI h, vI t] (gM ct) Q := by
  refine AMet.go (L := [some (vR 0), some (vI h), some (vI t), none, none, none, none]) mok_X7_stores (Nat.le_of_ble_eq_true rfl) rfl ?_
  refine aw_iload_n dX7_stores_0 rfl ?_
  refine aw_istore3 dX7_stores_1 (by decide) rfl ?_
  refine aw_aload_n dX7_stores_2 rfl ?_
  refine gm_7 rfl dX7_stores_3 dX7_stores_4 rfl ?_
  refine aw_iload_n dX7_stores_7 rfl ?_
  refine aw_iaload dX7_stores_8 m_a1 (by omega) (by omega) ?_
  refine c_X7_247 rfl dX7_stores_9 m_ob (Nat.le_of_ble_eq_true rfl) (by omega) (C_m_laysFrames hF (by omega) (fun ct1 hF1 c1 hs1 => ?_))
  rw [e] at hF1
  refine aK_v ?_
  have e1 : ct1 1 h = n := by rw [c1]; exact e
  refine aw_bipush dX7_stores_12 (by decide) ?_
  refine gm_7 rfl dX7_stores_14 dX7_stores_15 rfl ?_
  refine aw_iload_n dX7_stores_18 rfl ?_
  refine aw_iaload dX7_stores_19 m_a1 (by omega) (by omega) ?_
  refine aw_imulr dX7_stores_20 (by omega) ?_
  refine aw_iconst dX7_stores_21 (by decide) ?_
  refine aw_isubr dX7_stores_22 (by omega) ?_
  refine aw_istore4 dX7_stores_23 (by decide) rfl ?_
  rw [e1]
  exact L_m_stores (ct := ct) (by omega) hn hh (stor n (nF n) (sh h (ct 1)) t) hQ (16 * n).toNat _ _ _ _ _ rfl (by omega) (by omega) (by omega) (by omega) hF1 (by rw [c1]; exact hr) (by rw [c1]; rfl) hs1
theorem L_m_sumOf {ct : Int → Int → Int} {n h w : Int} {Q : aPost} {d kc ks : Nat} (e : ct 1 h = n) (hn : 1 ≤ n ∧ n ≤ 12) (hh : 0 ≤ h ∧ h + 6 + 16 * n ≤ 7578) (hr : rgF n (sh h (ct 1))) (hQ : Q (.inl (some (vI (isum (fun i => sv w (sh h (ct 1) i)) (nF n))))) (gM ct)) : ∀ (r : Nat) (j : Nat) (f : Int), f = h + 6 + j → (j : Int) + r = 16 * n →
    AW (mq Q) md_X7_sumOf d kc ks 8 [some (vR 0), some (vI h), some (vI w), some (vI (isum (fun i => sv w (sh h (ct 1) i)) j)), some (vI f)] [] (gM ct) := by
  intro r
  induction r with
  | zero =>
    intro j f h1 h2
    refine aw_iload dX7_sumOf_8 rfl ?_
    refine aw_iload_n dX7_sumOf_10 rfl ?_
    refine aw_bipush dX7_sumOf_11 (by decide) ?_
    refine aw_iaddr dX7_sumOf_13 (by omega) ?_
    refine aw_bipush dX7_sumOf_14 (by decide) ?_
    refine gm_7 rfl dX7_sumOf_16 dX7_sumOf_17 rfl ?_
    refine aw_iload_n dX7_sumOf_20 rfl ?_
    refine aw_iaload dX7_sumOf_21 m_a1 (by omega) (by omega) ?_
    refine aw_imulr dX7_sumOf_22 (by omega) ?_
    refine aw_iaddr dX7_sumOf_23 (by omega) ?_
    refine aw_icmpge (tgt := 106) dX7_sumOf_24 (by decide) (fun h24 => ?_) (fun h24 => ?_)
    · refine aw_iload_n dX7_sumOf_106 rfl ?_
      refine aw_ireturn dX7_sumOf_107 rfl ?_
      have ej : nF n = j := by unfold nF; omega
      rw [ej] at hQ
      exact hQ
    · exfalso; omega
  | succ r ih =>
    intro j f h1 h2
    subst h1
    have hv : 0 ≤ ct 1 (h + 6 + j) ∧ ct 1 (h + 6 + j) ≤ 121 := hr j (by omega) (by omega)
    have hb := isum_bd (g := fun i => sv w (sh h (ct 1) i)) (B := 100) (n := j) fun i i0 i1 => sv_bd (hr i i0 (by omega)).1
    have es : isum (fun i => sv w (sh h (ct 1) i)) (j + 1) = isum (fun i => sv w (sh h (ct 1) i)) j + sv w (ct 1 (h + 6 + j)) := rfl
    have ih := ih (j + 1) (h + 6 + j + 1) (by omega) (by omega)
    rw [es] at ih
    refine aw_iload dX7_sumOf_8 rfl ?_
    refine aw_iload_n dX7_sumOf_10 rfl ?_
    refine aw_bipush dX7_sumOf_11 (by decide) ?_
    refine aw_iaddr dX7_sumOf_13 (by omega) ?_
    refine aw_bipush dX7_sumOf_14 (by decide) ?_
    refine gm_7 rfl dX7_sumOf_16 dX7_sumOf_17 rfl ?_
    refine aw_iload_n dX7_sumOf_20 rfl ?_
    refine aw_iaload dX7_sumOf_21 m_a1 (by omega) (by omega) ?_
    refine aw_imulr dX7_sumOf_22 (by omega) ?_
    refine aw_iaddr dX7_sumOf_23 (by omega) ?_
    refine aw_icmpge (tgt := 106) dX7_sumOf_24 (by decide) (fun h24 => ?_) (fun h24 => ?_)
    · exfalso; omega
    · refine aw_iload_n dX7_sumOf_27 rfl ?_
      refine aw_iload_n dX7_sumOf_28 rfl ?_
      refine aw_ifne (tgt := 58) dX7_sumOf_29 (by decide) (fun h29 => ?_) (fun h29 => ?_)
      · refine aw_iload_n dX7_sumOf_58 rfl ?_
        refine aw_iconst dX7_sumOf_59 (by decide) ?_
        refine aw_icmpne (tgt := 83) dX7_sumOf_60 (by decide) (fun h60 => ?_) (fun h60 => ?_)
        · refine gm_7 rfl dX7_sumOf_83 dX7_sumOf_84 rfl ?_
          refine aw_iload dX7_sumOf_87 rfl ?_
          refine aw_iaload dX7_sumOf_89 m_a1 (by omega) (by omega) ?_
          refine aw_ifne (tgt := 97) dX7_sumOf_90 (by decide) (fun h90 => ?_) (fun h90 => ?_)
          · refine aw_iconst dX7_sumOf_97 (by decide) ?_
            refine aw_iaddr dX7_sumOf_98 (by omega) ?_
            refine aw_istore3 dX7_sumOf_99 (by decide) rfl ?_
            refine aw_iinc4r dX7_sumOf_100 (by decide) (by decide) rfl (by omega) ?_
            refine aw_goto (tgt := 8) dX7_sumOf_103 (by decide) ?_
            first
              | (rw [show sv w (ct 1 (h + 6 + j)) = ct 1 (h + 6 + j) by unfold sv; (repeat' split) <;> omega] at ih; exact ih)
              | (rw [show sv w (ct 1 (h + 6 + j)) = 1 by unfold sv; (repeat' split) <;> omega] at ih; exact ih)
              | (rw [show sv w (ct 1 (h + 6 + j)) = 0 by unfold sv; (repeat' split) <;> omega] at ih; exact ih)
          · refine aw_iconst dX7_sumOf_93 (by decide) ?_
            refine aw_goto (tgt := 98) dX7_sumOf_94 (by decide) ?_
            refine aw_iaddr dX7_sumOf_98 (by omega) ?_
            refine aw_istore3 dX7_sumOf_99 (by decide) rfl ?_
            refine aw_iinc4r dX7_sumOf_100 (by decide) (by decide) rfl (by omega) ?_
            refine aw_goto (tgt := 8) dX7_sumOf_103 (by decide) ?_
            first
              | (rw [show sv w (ct 1 (h + 6 + j)) = ct 1 (h + 6 + j) by unfold sv; (repeat' split) <;> omega] at ih; exact ih)
              | (rw [show sv w (ct 1 (h + 6 + j)) = 1 by unfold sv; (repeat' split) <;> omega] at ih; exact ih)
              | (rw [show sv w (ct 1 (h + 6 + j)) = 0 by unfold sv; (repeat' split) <;> omega] at ih; exact ih)
        · refine gm_7 rfl dX7_sumOf_63 dX7_sumOf_64 rfl ?_
          refine aw_iload dX7_sumOf_67 rfl ?_
          refine aw_iaload dX7_sumOf_69 m_a1 (by omega) (by omega) ?_
          refine aw_bipush dX7_sumOf_70 (by decide) ?_
          refine aw_icmplt (tgt := 79) dX7_sumOf_72 (by decide) (fun h72 => ?_) (fun h72 => ?_)
          · refine aw_iconst dX7_sumOf_79 (by decide) ?_
            refine aw_goto (tgt := 98) dX7_sumOf_80 (by decide) ?_
            refine aw_iaddr dX7_sumOf_98 (by omega) ?_
            refine aw_istore3 dX7_sumOf_99 (by decide) rfl ?_
            refine aw_iinc4r dX7_sumOf_100 (by decide) (by decide) rfl (by omega) ?_
            refine aw_goto (tgt := 8) dX7_sumOf_103 (by decide) ?_
            first
              | (rw [show sv w (ct 1 (h + 6 + j)) = ct 1 (h + 6 + j) by unfold sv; (repeat' split) <;> omega] at ih; exact ih)
              | (rw [show sv w (ct 1 (h + 6 + j)) = 1 by unfold sv; (repeat' split) <;> omega] at ih; exact ih)
              | (rw [show sv w (ct 1 (h + 6 + j)) = 0 by unfold sv; (repeat' split) <;> omega] at ih; exact ih)
          · refine aw_iconst dX7_sumOf_75 (by decide) ?_
            refine aw_goto (tgt := 98) dX7_sumOf_76 (by decide) ?_
            refine aw_iaddr dX7_sumOf_98 (by omega) ?_
            refine aw_istore3 dX7_sumOf_99 (by decide) rfl ?_
            refine aw_iinc4r dX7_sumOf_100 (by decide) (by decide) rfl (by omega) ?_
            refine aw_goto (tgt := 8) dX7_sumOf_103 (by decide) ?_
            first
              | (rw [show sv w (ct 1 (h + 6 + j)) = ct 1 (h + 6 + j) by unfold sv; (repeat' split) <;> omega] at ih; exact ih)
              | (rw [show sv w (ct 1 (h + 6 + j)) = 1 by unfold sv; (repeat' split) <;> omega] at ih; exact ih)
              | (rw [show sv w (ct 1 (h + 6 + j)) = 0 by unfold sv; (repeat' split) <;> omega] at ih; exact ih)
      · refine gm_7 rfl dX7_sumOf_32 dX7_sumOf_33 rfl ?_
        refine aw_iload dX7_sumOf_36 rfl ?_
        refine aw_iaload dX7_sumOf_38 m_a1 (by omega) (by omega) ?_
        refine aw_bipush dX7_sumOf_39 (by decide) ?_
        refine aw_icmpgt (tgt := 54) dX7_sumOf_41 (by decide) (fun h41 => ?_) (fun h41 => ?_)
        · refine aw_iconst dX7_sumOf_54 (by decide) ?_
          refine aw_goto (tgt := 98) dX7_sumOf_55 (by decide) ?_
          refine aw_iaddr dX7_sumOf_98 (by omega) ?_
          refine aw_istore3 dX7_sumOf_99 (by decide) rfl ?_
          refine aw_iinc4r dX7_sumOf_100 (by decide) (by decide) rfl (by omega) ?_
          refine aw_goto (tgt := 8) dX7_sumOf_103 (by decide) ?_
          first
            | (rw [show sv w (ct 1 (h + 6 + j)) = ct 1 (h + 6 + j) by unfold sv; (repeat' split) <;> omega] at ih; exact ih)
            | (rw [show sv w (ct 1 (h + 6 + j)) = 1 by unfold sv; (repeat' split) <;> omega] at ih; exact ih)
            | (rw [show sv w (ct 1 (h + 6 + j)) = 0 by unfold sv; (repeat' split) <;> omega] at ih; exact ih)
        · refine gm_7 rfl dX7_sumOf_44 dX7_sumOf_45 rfl ?_
          refine aw_iload dX7_sumOf_48 rfl ?_
          refine aw_iaload dX7_sumOf_50 m_a1 (by omega) (by omega) ?_
          refine aw_goto (tgt := 98) dX7_sumOf_51 (by decide) ?_
          refine aw_iaddr dX7_sumOf_98 (by omega) ?_
          refine aw_istore3 dX7_sumOf_99 (by decide) rfl ?_
          refine aw_iinc4r dX7_sumOf_100 (by decide) (by decide) rfl (by omega) ?_
          refine aw_goto (tgt := 8) dX7_sumOf_103 (by decide) ?_
          first
            | (rw [show sv w (ct 1 (h + 6 + j)) = ct 1 (h + 6 + j) by unfold sv; (repeat' split) <;> omega] at ih; exact ih)
            | (rw [show sv w (ct 1 (h + 6 + j)) = 1 by unfold sv; (repeat' split) <;> omega] at ih; exact ih)
            | (rw [show sv w (ct 1 (h + 6 + j)) = 0 by unfold sv; (repeat' split) <;> omega] at ih; exact ih)
theorem C_m_sumOf {ct : Int → Int → Int} {n h w : Int} {Q : aPost} (e : ct 1 h = n) (hn : 1 ≤ n ∧ n ≤ 12) (hh : 0 ≤ h ∧ h + 6 + 16 * n ≤ 7578) (hr : rgF n (sh h (ct 1))) (hQ : Q (.inl (some (vI (isum (fun i => sv w (sh h (ct 1) i)) (nF n))))) (gM ct)) : AMet md_X7_sumOf 2 0 0 [vR 0, vI h, vI w] (gM ct) Q := by
  refine AMet.go (L := [some (vR 0), some (vI h), some (vI w), none, none]) mok_X7_sumOf (Nat.le_of_ble_eq_true rfl) rfl ?_
  refine aw_iconst dX7_sumOf_0 (by decide) ?_
  refine aw_istore3 dX7_sumOf_1 (by decide) rfl ?_
  refine aw_iload_n dX7_sumOf_2 rfl ?_
  refine aw_bipush dX7_sumOf_3 (by decide) ?_
  refine aw_iaddr dX7_sumOf_5 (by omega) ?_
  refine aw_istore4 dX7_sumOf_6 (by decide) rfl ?_
  exact L_m_sumOf e hn hh hr hQ (16 * n).toNat 0 _ (by omega) (by omega)
