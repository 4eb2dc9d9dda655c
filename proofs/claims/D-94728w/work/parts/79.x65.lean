set_option maxRecDepth 100000
/-! operations, 29: copyOut -/
theorem ctF_id {t : Nat} {v : Int} (ht : t < 4) (h : 0 ≤ v ∧ v ≤ 121) : ctF t v = v := by
  have e32 : w32 v = v := w32_id (by omega) (by omega)
  have e8 : w8 v = v := w8_id (by omega) (by omega)
  have e16 : w16 v = v := w16_id (by omega) (by omega)
  have h4 : t = 0 ∨ t = 1 ∨ t = 2 ∨ t = 3 := by omega
  rcases h4 with z | z | z | z <;> subst z
  · show w8 (w8 (w32 v)) = v; rw [e32, e8, e8]
  · show w16 (w16 (w32 v)) = v; rw [e32, e16, e16]
  · exact e32
  · rfl
theorem C_x_writeOk {own : Int → Int} {sz : Int} {im : Int → aIm} {ct : Int → Int → Int} {r c nn : Int} {t : Nat} {k v : Int} {Q : aPost} (hR : RT own sz im ct) (c0 : 0 ≤ c ∧ c < 4) (er : ct (2 + c) 0 = r) (ht : t < 4) (ya : aar sz im r t nn) (hnn : nn ≤ 60) (hk : 0 ≤ k ∧ k < nn) (hQ : Q (.inl (some (vI 1))) (sz, im, aup (aup ct 0 7 0) r k (ctF t v))) : AMet md_X0_write 163 3 222 [vR 0, vI c, vI k, vL v] (sz, im, ct) Q := by
  refine AMet.goW (L := [some (vR 0), some (vI c), some (vI k), some (vL v), none, none]) mok_X0_write (Nat.le_of_ble_eq_true rfl) rfl ?_
  refine aw_aload_n dX0_write_0 rfl ?_
  refine aw_iconst dX0_write_1 (by decide) ?_
  refine p_X0_73_0 rfl dX0_write_2 hR.o0 ?_
  refine aw_aload_n dX0_write_5 rfl ?_
  refine aw_iload_n dX0_write_6 rfl ?_
  refine c_X0_115 rfl dX0_write_7 hR.o0 (Nat.le_of_ble_eq_true rfl) (by omega) (C_x_on (hR.up0 (j := 7) (v := 0)) (fun t0 t1 => by rw [aup_n (by omega), er]; have := ya.1; omega) (fun hb => ?_) (fun t0 t1 hb => ?_) (fun t0 t1 hb => ?_))
  · exfalso; omega
  · exfalso; rw [aup_n (by omega), er] at hb; have := ya.1; omega
  · rw [aup_n (by omega), er]
    refine aK_i ?_
    refine aw_iload_n dX0_write_10 rfl ?_
    refine aw_lload_n dX0_write_11 rfl ?_
    refine c_X0_119a (kc1 := 3) (ks1 := 222) (kc2 := 0) (ks2 := 0) (by decide) (by decide) rfl dX0_write_12  (Nat.le_of_ble_eq_true rfl) (by omega) (C_x_tput ht ya (by omega) (fun j0 j1 => ?_) (fun hj => ?_))
    · refine aK_v ?_
      refine aw_iconst dX0_write_15 (by decide) ?_
      refine aw_zreturn dX0_write_16 rfl (Or.inr rfl) ?_
      exact hQ
    · exfalso; omega
theorem L_x_co {own : Int → Int} {sz : Int} {im : Int → aIm} {ct : Int → Int → Int} {r c nn : Int} {t : Nat} {a b dd : Int} {s N : Int → Int} {Q : aPost} {d kc ks : Nat} (hd : 164 ≤ d) (hR : RT own sz im ct) (HY : YR own 0 sz im ct 10 s dd N) (xf : (0 ≤ a ∧ a < s 0) ∧ 0 ≤ b ∧ b < s (64 + 198 * a)) (hp : s 0 ≤ 4) (gk : PH s a) (c0 : 0 ≤ c ∧ c < 4) (er : ct (2 + c) 0 = r) (ht : t < 4) (ya : aar sz im r t nn) (hnn : nn ≤ 60) (h16 : 16 ≤ nn) (yo : own r = -10 - c) (K : ∀ ct1 : Int → Int → Int, (∀ x j, x ≠ r → ¬ (x = 0 ∧ j = 7) → ct1 x j = ct x j) → ct1 0 7 = 0 → (∀ j, ct1 r j = if 0 ≤ j ∧ j < 16 then s (64 + 198 * a + 6 + 16 * b + j) else ct r j) → AW (mq Q) md_X0_copyOut d kc ks 100 [some (vR 0), some (vI a), some (vI b), some (vI c), some (vI 16)] [] (sz, im, ct1)) : ∀ (r9 : Nat) (k : Int) (ct1 : Int → Int → Int), k + r9 = 16 → 0 ≤ k → (∀ x j, x ≠ r → ¬ (x = 0 ∧ j = 7) → ct1 x j = ct x j) → ct1 0 7 = 0 → (∀ j, ct1 r j = if 0 ≤ j ∧ j < k then s (64 + 198 * a + 6 + 16 * b + j) else ct r j) → AW (mq Q) md_X0_copyOut d (3 * r9 + kc) (222 * r9 + ks) 65 [some (vR 0), some (vI a), some (vI b), some (vI c), some (vI k)] [] (sz, im, ct1) := by
  have hne := TRY.rne hR c0.1 yo
  intro r9
  induction r9 with
  | zero =>
    intro k ct1 h1 h2 g1 g2 g3
    have ek : k = 16 := by omega
    subst ek
    refine AW.widen (kc' := kc) (ks' := ks) (by omega) (by omega) ?_
    refine aw_iload dX0_copyOut_65 rfl ?_
    refine aw_bipush dX0_copyOut_67 (by decide) ?_
    refine aw_icmpge (tgt := 100) dX0_copyOut_69 (by decide) (fun h69 => ?_) (fun h69 => ?_)
    · exact K ct1 g1 g2 g3
    · exfalso; omega
  | succ r9 ih =>
    intro k ct1 h1 h2 g1 g2 g3
    have HY1 : YR own 0 sz im ct1 10 s dd N := HY.frame fun x j x0 x1 => g1 x j (fun z => by rw [z] at x0; omega) (fun z => by rw [z.1, hR.1.2] at x0; omega)
    have hR1 : RT own sz im ct1 := hR.frame fun t _ _ => g1 1 t (fun z => by rw [← z, hR.2.2.1.2.1] at yo; omega) (by omega)
    have er1 : ct1 (2 + c) 0 = r := by rw [g1 _ _ (fun z => hne.2.2 c c0.1 c0.2 z.symm) (by omega)]; exact er
    refine aw_iload dX0_copyOut_65 rfl ?_
    refine aw_bipush dX0_copyOut_67 (by decide) ?_
    refine aw_icmpge (tgt := 100) dX0_copyOut_69 (by decide) (fun h69 => ?_) (fun h69 => ?_)
    · exfalso; omega
    · refine aw_aload_n dX0_copyOut_72 rfl ?_
      refine aw_iload_n dX0_copyOut_73 rfl ?_
      refine aw_iload dX0_copyOut_74 rfl ?_
      refine aw_aload_n dX0_copyOut_76 rfl ?_
      refine aw_iload_n dX0_copyOut_77 rfl ?_
      refine c_X0_172 rfl dX0_copyOut_78 hR.o0 (Nat.le_of_ble_eq_true rfl) (by omega) (C_x_xat hR1 HY1 (by omega) ?_)
      obtain ⟨q1, q2, -⟩ := HY1.2.2.2.2.2.2.2 a xf.1.1 xf.1.2
      have q3 := q1.2.2.2
      have q4 := q2.2.1 b (by omega) (by omega)
      have q5 := q2.2.2.2 b k (by omega) (by omega) (by omega) (by omega)
      unfold sh at q5
      rw [show 64 + 198 * a + 6 + (16 * b + k) = 64 + 198 * a + 6 + 16 * b + k by omega] at q5
      have q6 := gk.2.1 (16 * b + k) (by omega) (by omega)
      unfold sh at q6
      rw [show 64 + 198 * a + 6 + (16 * b + k) = 64 + 198 * a + 6 + 16 * b + k by omega] at q6
      refine aK_i ?_
      refine g_X0_176_9 rfl dX0_copyOut_81 q1.1 ?_
      refine aw_iload_n dX0_copyOut_84 rfl ?_
      refine aw_aaload dX0_copyOut_85 q1.2.1 (by decide) (by omega) (by omega) ?_
      refine aw_iload dX0_copyOut_86 rfl ?_
      refine aw_saload dX0_copyOut_88 q4 (by omega) (by omega) ?_
      rw [q5]
      refine aw_i2l dX0_copyOut_89 ?_
      refine c_X0_314a (kc1 := 3) (ks1 := 222) (kc2 := 3 * r9 + kc) (ks2 := 222 * r9 + ks) (by omega) (by omega) rfl dX0_copyOut_90 hR.o0 (Nat.le_of_ble_eq_true rfl) (by omega) (C_x_writeOk hR1 c0 er1 ht ya hnn (by omega) ?_)
      refine aK_i ?_
      refine aw_pop dX0_copyOut_93 rfl ?_
      refine aw_iinc4r dX0_copyOut_94 (by decide) (by decide) rfl (by omega) ?_
      refine aw_goto (tgt := 65) dX0_copyOut_97 (by decide) ?_
      rw [ctF_id ht q6]
      refine ih (k + 1) _ (by omega) (by omega) (fun x j hx h0 => by rw [aup_rn hx, aup_n h0]; exact g1 x j hx h0) (by rw [aup_rn (fun z => hne.1 z.symm), aup_s]) (fun j => ?_)
      by_cases z : j = k
      · subst z; rw [aup_s, if_pos (by omega)]
      · rw [aup_n (by omega), aup_rn hne.1, g3]
        by_cases z2 : 0 ≤ j ∧ j < k
        · rw [if_pos z2, if_pos (by omega)]
        · rw [if_neg z2, if_neg (by omega)]
theorem L_m_co {ct : Int → Int → Int} {a b c : Int} {Q : aPost} {d kc ks : Nat} (hd : 3 ≤ d) (ha : 0 ≤ a ∧ a < 4) (hb : 0 ≤ b ∧ b < 12) (hc : 0 ≤ c ∧ c < 4) (K : ∀ ct1 : Int → Int → Int, (∀ x, x ≠ 5 → ct1 x = ct x) → (∀ i, ct1 5 i = if 60 * c ≤ i ∧ i < 60 * c + 16 then ct 1 (64 + 198 * a + 6 + 16 * b + (i - 60 * c)) else ct 5 i) → AW (mq Q) md_X7_copyOut d kc ks 98 [some (vR 0), some (vI a), some (vI b), some (vI c), some (vI 16)] [] (gM ct1)) : ∀ (r9 : Nat) (k : Int) (ct1 : Int → Int → Int), k + r9 = 16 → 0 ≤ k → (∀ x, x ≠ 5 → ct1 x = ct x) → (∀ i, ct1 5 i = if 60 * c ≤ i ∧ i < 60 * c + k then ct 1 (64 + 198 * a + 6 + 16 * b + (i - 60 * c)) else ct 5 i) → AW (mq Q) md_X7_copyOut d kc ks 58 [some (vR 0), some (vI a), some (vI b), some (vI c), some (vI k)] [] (gM ct1) := by
  intro r9
  induction r9 with
  | zero =>
    intro k ct1 h1 h2 g1 g2
    have ek : k = 16 := by omega
    subst ek
    refine aw_iload dX7_copyOut_58 rfl ?_
    refine aw_bipush dX7_copyOut_60 (by decide) ?_
    refine aw_icmpge (tgt := 98) dX7_copyOut_62 (by decide) (fun h62 => ?_) (fun h62 => ?_)
    · exact K ct1 g1 g2
    · exfalso; omega
  | succ r9 ih =>
    intro k ct1 h1 h2 g1 g2
    refine aw_iload dX7_copyOut_58 rfl ?_
    refine aw_bipush dX7_copyOut_60 (by decide) ?_
    refine aw_icmpge (tgt := 98) dX7_copyOut_62 (by decide) (fun h62 => ?_) (fun h62 => ?_)
    · exfalso; omega
    · refine gm_27 rfl dX7_copyOut_65 dX7_copyOut_66 rfl ?_
      refine aw_bipush dX7_copyOut_69 (by decide) ?_
      refine aw_iload_n dX7_copyOut_71 rfl ?_
      refine aw_imulr dX7_copyOut_72 (by omega) ?_
      refine aw_iload dX7_copyOut_73 rfl ?_
      refine aw_iaddr dX7_copyOut_75 (by omega) ?_
      refine gm_7 rfl dX7_copyOut_76 dX7_copyOut_77 rfl ?_
      refine aw_aload_n dX7_copyOut_80 rfl ?_
      refine aw_iload_n dX7_copyOut_81 rfl ?_
      refine aw_iload_n dX7_copyOut_82 rfl ?_
      refine c_X7_301 rfl dX7_copyOut_83 m_ob (Nat.le_of_ble_eq_true rfl) (by omega) (C_m_frameRow (by omega) (by omega) ?_)
      refine aK_i ?_
      refine aw_iload dX7_copyOut_86 rfl ?_
      refine aw_iaddr dX7_copyOut_88 (by omega) ?_
      refine aw_iaload dX7_copyOut_89 m_a1 (by omega) (by omega) ?_
      refine aw_i2l dX7_copyOut_90 ?_
      refine aw_lastore dX7_copyOut_91 m_a5 (by omega) (by omega) ?_
      refine aw_iinc4r dX7_copyOut_92 (by decide) (by decide) rfl (by omega) ?_
      refine aw_goto (tgt := 58) dX7_copyOut_95 (by decide) ?_
      refine ih (k + 1) _ (by omega) (by omega) (fun x hx => by rw [aup_rn hx]; exact g1 x hx) (fun i => ?_)
      by_cases z : i = 60 * c + k
      · subst z; rw [aup_s, if_pos (by omega), g1 1 (by decide)]; congr 1; omega
      · rw [aup_n (by omega), g2]
        by_cases z2 : 60 * c ≤ i ∧ i < 60 * c + k
        · rw [if_pos z2, if_pos (by omega)]
        · rw [if_neg z2, if_neg (by omega)]
