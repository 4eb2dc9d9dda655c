set_option maxRecDepth 100000
/-! BeeYardModel, 4: a yard -/
theorem C_m_lays {ct : Int → Int → Int} {k : Int} {Q : aPost} (h0 : 0 ≤ k ∧ k < 4) (hq : ct 1 (64 + 198 * k + 3) < 8 ∧ -1 ≤ ct 1 (64 + 198 * k + 3)) (hQ : Q (.inl (some (vI (laK (ct 1) k)))) (gM ct)) : AMet md_X7_laysIn 2 0 0 [vR 0, vI k] (gM ct) Q :=
  C_m_laysIn h0 hq (fun z => by rw [show laK (ct 1) k = 0 by unfold laK; rw [if_pos z]] at hQ; exact hQ) (fun z => by rw [show laK (ct 1) k = ct 1 (14 + 4 * ct 1 (64 + 198 * k + 3)) by unfold laK; rw [if_neg (by omega)]] at hQ; exact hQ)
theorem L_m_pass {ct : Int → Int → Int} {Q : aPost} {d kc ks : Nat} (hd : 4 ≤ d) (hP : PD (ct 1)) (h3 : 0 ≤ ct 1 3 ∧ ct 1 3 ≤ 1000000)
    (hQ : ∀ ct' : Int → Int → Int, Fok ct' → ct' 1 = upA (paF (ct 1 0).toNat (ct 1)) 3 (ct 1 3 + 1) → dfr ct ct' → Q (.inl none) (gM ct')) : ∀ (r k : Nat) (ct1 : Int → Int → Int), (k : Int) + r = ct 1 0 → ct1 1 = paF k (ct 1) → Fok ct1 → dfr ct ct1 →
    AW (mq Q) md_X7_passes d kc ks 2 [some (vR 0), some (vI k)] [] (gM ct1) := by
  intro r
  induction r with
  | zero =>
    intro k ct1 g1 g2 hF hs
    have lo := paF_lo hP (k := k) (by omega)
    have s0 : ct1 1 0 = ct 1 0 := by rw [g2]; exact lo.1 0 (by omega) (by omega) (by omega) (by omega)
    have s3 : ct1 1 3 = ct 1 3 := by rw [g2]; exact lo.1 3 (by omega) (by omega) (by omega) (by omega)
    refine aw_iload_n dX7_passes_2 rfl ?_
    refine gm_7 rfl dX7_passes_3 dX7_passes_4 rfl ?_
    refine aw_iconst dX7_passes_7 (by decide) ?_
    refine aw_iaload dX7_passes_8 m_a1 (by omega) (by omega) ?_
    rw [s0]
    refine aw_icmpge (tgt := 73) dX7_passes_9 (by decide) (fun h9 => ?_) (fun h9 => ?_)
    · refine gm_7 rfl dX7_passes_73 dX7_passes_74 rfl ?_
      refine aw_iconst dX7_passes_77 (by decide) ?_
      refine aw_dup2 dX7_passes_78 rfl rfl ?_
      refine aw_iaload dX7_passes_79 m_a1 (by omega) (by omega) ?_
      rw [s3]
      refine aw_iconst dX7_passes_80 (by decide) ?_
      refine aw_iaddr dX7_passes_81 (by omega) ?_
      refine aw_iastore dX7_passes_82 m_a1 (by omega) (by omega) ?_
      refine aw_ret dX7_passes_83 rfl ?_
      have ek : (ct 1 0).toNat = k := by omega
      refine hQ _ hF.up1 ?_ hs.up1
      rw [aup_r, g2, ek]
    · exfalso; omega
  | succ r ih =>
    intro k ct1 g1 g2 hF hs
    have lo := paF_lo hP (k := k) (by omega)
    have hPk := hP.2.1 k (by omega) (by omega)
    have hP0 := hP.1
    have hq8 := hP.2.2.1
    have s0 : ct1 1 0 = ct 1 0 := by rw [g2]; exact lo.1 0 (by omega) (by omega) (by omega) (by omega)
    have q1 : ct1 1 1 = ct 1 1 := by rw [g2]; exact lo.1 1 (by omega) (by omega) (by omega) (by omega)
    have r0 : ct1 1 (64 + 198 * k) = ct 1 (64 + 198 * k) := by rw [g2]; exact lo.2 _ (by omega)
    have r1 : ct1 1 (64 + 198 * k + 1) = ct 1 (64 + 198 * k + 1) := by rw [g2]; exact lo.2 _ (by omega)
    have r2 : ct1 1 (64 + 198 * k + 2) = ct 1 (64 + 198 * k + 2) := by rw [g2]; exact lo.2 _ (by omega)
    have r3 : ct1 1 (64 + 198 * k + 3) = ct 1 (64 + 198 * k + 3) := by rw [g2]; exact lo.2 _ (by omega)
    have hrg : rgF (ct1 1 (64 + 198 * k)) (sh (64 + 198 * (k : Int)) (ct1 1)) := by
      rw [r0]
      intro i i0 i1
      unfold sh
      rw [g2, lo.2 _ (by omega)]
      exact hPk.2.1 i i0 i1
    have hlay : -100 ≤ laK (ct1 1) k ∧ laK (ct1 1) k ≤ 100 := by
      unfold laK
      split
      · omega
      · have := hP.2.2.2 (ct1 1 (64 + 198 * k + 3)) (by omega) (by omega)
        rw [g2, lo.1 _ (by rw [← g2]; omega) (by rw [← g2]; omega) (by rw [← g2]; omega) (by rw [← g2]; omega), ← g2]
        omega
    refine aw_iload_n dX7_passes_2 rfl ?_
    refine gm_7 rfl dX7_passes_3 dX7_passes_4 rfl ?_
    refine aw_iconst dX7_passes_7 (by decide) ?_
    refine aw_iaload dX7_passes_8 m_a1 (by omega) (by omega) ?_
    rw [s0]
    refine aw_icmpge (tgt := 73) dX7_passes_9 (by decide) (fun h9 => ?_) (fun h9 => ?_)
    · exfalso; omega
    · refine aw_aload_n dX7_passes_12 rfl ?_
      refine aw_iload_n dX7_passes_13 rfl ?_
      refine c_X7_217 rfl dX7_passes_14  (Nat.le_of_ble_eq_true rfl) (by omega) (C_m_hiveRow (by omega) ?_)
      refine aK_i ?_
      refine aw_aload_n dX7_passes_17 rfl ?_
      refine aw_iload_n dX7_passes_18 rfl ?_
      refine c_X7_267 rfl dX7_passes_19 m_ob (Nat.le_of_ble_eq_true rfl) (by omega) (C_m_lays (by omega) (by omega) ?_)
      refine aK_i ?_
      refine c_X7_270 rfl dX7_passes_22 m_ob (Nat.le_of_ble_eq_true rfl) (by omega) (C_m_dayOf hF rfl (by omega) (by omega) hrg hlay (by omega) (by omega) (fun ct2 hF2 e2 a25 a26 a27 f2 => ?_))
      have e2' : ct2 1 = dyK (ct1 1) (64 + 198 * k) (laK (ct1 1) k) := e2
      have d6 : ct2 1 6 = ct1 1 6 := by rw [e2']; exact dyK_o (by omega) (by omega) (by omega) (by omega)
      have d9 : ct2 1 9 = ct1 1 9 := by rw [e2']; exact dyK_o (by omega) (by omega) (by omega) (by omega)
      have d8 : ct2 1 8 = ct1 1 8 := by rw [e2']; exact dyK_o (by omega) (by omega) (by omega) (by omega)
      refine aK_v ?_
      refine gm_7 rfl dX7_passes_25 dX7_passes_26 rfl ?_
      refine aw_bipush dX7_passes_29 (by decide) ?_
      refine aw_dup2 dX7_passes_31 rfl rfl ?_
      refine aw_iaload dX7_passes_32 m_a1 (by omega) (by omega) ?_
      rw [d6]
      refine gm_256 rfl dX7_passes_33 dX7_passes_34 rfl ?_
      rw [a25]
      refine aw_iadd dX7_passes_37 ?_
      refine aw_iastore dX7_passes_38 m_a1 (by omega) (by omega) ?_
      refine gm_7 rfl dX7_passes_39 dX7_passes_40 rfl ?_
      refine aw_bipush dX7_passes_43 (by decide) ?_
      refine aw_dup2 dX7_passes_45 rfl rfl ?_
      refine aw_iaload dX7_passes_46 m_a1 (by omega) (by omega) ?_
      rw [aup_n (by omega), d9]
      refine gm_253 rfl dX7_passes_47 dX7_passes_48 rfl ?_
      rw [aup_rn (by decide), a26]
      refine aw_iadd dX7_passes_51 ?_
      refine aw_iastore dX7_passes_52 m_a1 (by omega) (by omega) ?_
      refine gm_7 rfl dX7_passes_53 dX7_passes_54 rfl ?_
      refine aw_bipush dX7_passes_57 (by decide) ?_
      refine aw_dup2 dX7_passes_59 rfl rfl ?_
      refine aw_iaload dX7_passes_60 m_a1 (by omega) (by omega) ?_
      rw [aup_n (by omega), aup_n (by omega), d8]
      refine gm_264 rfl dX7_passes_61 dX7_passes_62 rfl ?_
      rw [aup_rn (by decide), aup_rn (by decide), a27]
      refine aw_iadd dX7_passes_65 ?_
      refine aw_iastore dX7_passes_66 m_a1 (by omega) (by omega) ?_
      refine aw_iinc1r dX7_passes_67 (by decide) (by decide) rfl (by omega) ?_
      refine aw_goto (tgt := 2) dX7_passes_70 (by decide) ?_
      refine ih (k + 1) _ (by omega) ?_ hF2.ok.up1.up1.up1 ⟨fun b b0 b1 b9 => ?_, fun i i1 i2 i3 i4 => ?_⟩
      · rw [aup_r, aup_r, aup_r, e2', g2]; rfl
      · rw [aup_rn b1, aup_rn b1, aup_rn b1, f2.1 b b0 b1 b9]; exact hs.1 b b0 b1 b9
      · rw [aup_rn (by decide), aup_rn (by decide), aup_rn (by decide), f2.2 i i1 i2 i3 i4]; exact hs.2 i i1 i2 i3 i4
theorem C_m_passes {ct : Int → Int → Int} {Q : aPost} (hF : Fok ct) (hP : PD (ct 1)) (h3 : 0 ≤ ct 1 3 ∧ ct 1 3 ≤ 1000000) (hQ : ∀ ct' : Int → Int → Int, Fok ct' → ct' 1 = upA (paF (ct 1 0).toNat (ct 1)) 3 (ct 1 3 + 1) → dfr ct ct' → Q (.inl none) (gM ct')) : AMet md_X7_passes 4 0 0 [vR 0] (gM ct) Q := by
  refine AMet.go (L := [some (vR 0), none]) mok_X7_passes (Nat.le_of_ble_eq_true rfl) rfl ?_
  refine aw_iconst dX7_passes_0 (by decide) ?_
  refine aw_istore1 dX7_passes_1 (by decide) rfl ?_
  exact L_m_pass (ct := ct) (by omega) hP h3 hQ (ct 1 0).toNat 0 ct (by have := hP.1; omega) rfl hF dfr.rf
theorem C_m_brings {ct : Int → Int → Int} {k t : Int} {Q : aPost} (hF : Fok ct) (k0 : 0 ≤ k ∧ k < 4) (hn : 1 ≤ ct 1 (64 + 198 * k) ∧ ct 1 (64 + 198 * k) ≤ 12) (hr : rgF (ct 1 (64 + 198 * k)) (sh (64 + 198 * k) (ct 1))) (ht : 0 ≤ t ∧ t < 2147483648) (hQ : ∀ ct' : Int → Int → Int, Fok ct' → ct' 1 = brK (ct 1) k t → mfr ct ct' → Q (.inl (some (vI (stL (ct 1) (64 + 198 * k) t)))) (gM ct')) : AMet md_X7_brings 6 0 0 [vR 0, vI k, vI t] (gM ct) Q := by
  refine AMet.go (L := [some (vR 0), some (vI k), some (vI t), none]) mok_X7_brings (Nat.le_of_ble_eq_true rfl) rfl ?_
  refine aw_aload_n dX7_brings_0 rfl ?_
  refine aw_iload_n dX7_brings_1 rfl ?_
  refine c_X7_217 rfl dX7_brings_2  (Nat.le_of_ble_eq_true rfl) (by omega) (C_m_hiveRow (by omega) ?_)
  refine aK_i ?_
  refine aw_iload_n dX7_brings_5 rfl ?_
  refine c_X7_188 rfl dX7_brings_6 m_ob (Nat.le_of_ble_eq_true rfl) (by omega) (C_m_stores hF rfl hn (by omega) ht hr (fun ct2 hF2 e2 f2 => ?_))
  have e2' : ct2 1 = stK (ct 1) (64 + 198 * k) t := e2
  have d4 : ct2 1 4 = ct 1 4 := by rw [e2']; exact stK_o (by omega) (by omega)
  have d7 : ct2 1 7 = ct 1 7 := by rw [e2']; exact stK_o (by omega) (by omega)
  refine aK_i ?_
  refine aw_istore3 dX7_brings_9 (by decide) rfl ?_
  refine gm_7 rfl dX7_brings_10 dX7_brings_11 rfl ?_
  refine aw_iconst dX7_brings_14 (by decide) ?_
  refine aw_dup2 dX7_brings_15 rfl rfl ?_
  refine aw_iaload dX7_brings_16 m_a1 (by omega) (by omega) ?_
  rw [d4]
  refine aw_iload_n dX7_brings_17 rfl ?_
  refine aw_iadd dX7_brings_18 ?_
  refine aw_iastore dX7_brings_19 m_a1 (by omega) (by omega) ?_
  refine gm_7 rfl dX7_brings_20 dX7_brings_21 rfl ?_
  refine aw_bipush dX7_brings_24 (by decide) ?_
  refine aw_dup2 dX7_brings_26 rfl rfl ?_
  refine aw_iaload dX7_brings_27 m_a1 (by omega) (by omega) ?_
  rw [aup_n (by omega), d7]
  refine aw_iload_n dX7_brings_28 rfl ?_
  refine aw_iadd dX7_brings_29 ?_
  refine aw_iastore dX7_brings_30 m_a1 (by omega) (by omega) ?_
  refine aw_iload_n dX7_brings_31 rfl ?_
  refine aw_ireturn dX7_brings_32 rfl ?_
  refine hQ _ hF2.ok.up1.up1 ?_ f2.up1.up1
  rw [aup_r, aup_r, e2']
  rfl
theorem L_m_harv {ct : Int → Int → Int} {k f : Int} {Q : aPost} {d kc ks : Nat} (hd : 3 ≤ d) (hF : Fok ct) (k0 : 0 ≤ k ∧ k < 4) (hn : 1 ≤ ct 1 (64 + 198 * k) ∧ ct 1 (64 + 198 * k) ≤ 12) (hr : rgF (ct 1 (64 + 198 * k)) (sh (64 + 198 * k) (ct 1))) (f0 : 0 ≤ f) (f1 : f < ct 1 (64 + 198 * k)) (hQ : ∀ ct' : Int → Int → Int, Fok ct' → ct' 1 = haK (ct 1) k f → mfr ct ct' → Q (.inl (some (vI (harN f 16 (sh (64 + 198 * k) (ct 1)))))) (gM ct')) :
    ∀ (r j : Nat) (ct1 : Int → Int → Int) (x5 : Option aV), j + r = 16 → ct1 1 = us (64 + 198 * k) (harC f j (sh (64 + 198 * k) (ct 1))) → (∀ b, b ≠ 1 → ct1 b = ct b) →
    AW (mq Q) md_X7_harvests d kc ks 5 [some (vR 0), some (vI k), some (vI f), some (vI (harN f j (sh (64 + 198 * k) (ct 1)))), some (vI j), x5] [] (gM ct1) := by
  intro r
  induction r with
  | zero =>
    intro j ct1 x5 g1 g2 g3
    have ej : j = 16 := by omega
    subst ej
    have d5 : ct1 1 5 = ct 1 5 := by
      rw [g2]
      refine us_o (n := ct 1 (64 + 198 * k)) (fun j hj => ?_) (by omega)
      unfold harC
      rw [if_neg (by omega)]
    refine aw_iload dX7_harvests_5 rfl ?_
    refine aw_bipush dX7_harvests_7 (by decide) ?_
    refine aw_icmpge (tgt := 62) dX7_harvests_9 (by decide) (fun h9 => ?_) (fun h9 => ?_)
    · refine gm_7 rfl dX7_harvests_62 dX7_harvests_63 rfl ?_
      refine aw_iconst dX7_harvests_66 (by decide) ?_
      refine aw_dup2 dX7_harvests_67 rfl rfl ?_
      refine aw_iaload dX7_harvests_68 m_a1 (by omega) (by omega) ?_
      rw [d5]
      refine aw_iload_n dX7_harvests_69 rfl ?_
      refine aw_iadd dX7_harvests_70 ?_
      refine aw_iastore dX7_harvests_71 m_a1 (by omega) (by omega) ?_
      refine aw_iload_n dX7_harvests_72 rfl ?_
      refine aw_ireturn dX7_harvests_73 rfl ?_
      refine hQ _ ?_ ?_ ⟨fun b b0 b1 b9 => by rw [aup_rn b1]; exact g3 b b1, fun i hi => by rw [aup_rn (by decide), g3 0 (by decide)]⟩
      · exact FC.row hF (by rw [aup_rn (by decide), g3 0 (by decide)]) (by rw [aup_rn (by decide), g3 9 (by decide)]) |>.ok
      · rw [aup_r, g2]; rfl
    · exfalso; omega
  | succ r ih =>
    intro j ct1 x5 g1 g2 g3
    have hv := hr (16 * f + j) (by omega) (by omega)
    have e0 : ct1 1 (64 + 198 * k + 6 + 16 * f + j) = sh (64 + 198 * k) (ct 1) (16 * f + j) := by
      rw [g2]
      unfold us
      rw [show 64 + 198 * k + 6 + 16 * f + j - (64 + 198 * k + 6) = 16 * f + j by omega]
      unfold harC
      rw [if_neg (by omega)]
    have hb := isum_bd (g := fun i => sv 0 (sh (64 + 198 * k) (ct 1) (16 * f + i))) (B := 100) (n := j) fun i i0 i1 => sv_bd (hr _ (by omega) (by omega)).1
    have hb2 : 0 ≤ harN f j (sh (64 + 198 * k) (ct 1)) ∧ harN f j (sh (64 + 198 * k) (ct 1)) ≤ 100 * j := hb
    have es : harN f (j + 1) (sh (64 + 198 * k) (ct 1)) = harN f j (sh (64 + 198 * k) (ct 1)) + sv 0 (sh (64 + 198 * k) (ct 1) (16 * f + j)) := rfl
    have ih := ih (j + 1)
    rw [es] at ih
    refine aw_iload dX7_harvests_5 rfl ?_
    refine aw_bipush dX7_harvests_7 (by decide) ?_
    refine aw_icmpge (tgt := 62) dX7_harvests_9 (by decide) (fun h9 => ?_) (fun h9 => ?_)
    · exfalso; omega
    · refine aw_aload_n dX7_harvests_12 rfl ?_
      refine aw_iload_n dX7_harvests_13 rfl ?_
      refine aw_iload_n dX7_harvests_14 rfl ?_
      refine c_X7_301 rfl dX7_harvests_15 m_ob (Nat.le_of_ble_eq_true rfl) (by omega) (C_m_frameRow (by omega) (by omega) ?_)
      refine aK_i ?_
      refine aw_iload dX7_harvests_18 rfl ?_
      refine aw_iaddr dX7_harvests_20 (by omega) ?_
      refine aw_istore5 dX7_harvests_21 (by decide) rfl ?_
      refine gm_7 rfl dX7_harvests_23 dX7_harvests_24 rfl ?_
      refine aw_iload dX7_harvests_27 rfl ?_
      refine aw_iaload dX7_harvests_29 m_a1 (by omega) (by omega) ?_
      rw [e0]
      refine aw_bipush dX7_harvests_30 (by decide) ?_
      refine aw_icmple (tgt := 38) dX7_harvests_32 (by decide) (fun h32 => ?_) (fun h32 => ?_)
      · refine aw_iload_n dX7_harvests_38 rfl ?_
        refine gm_7 rfl dX7_harvests_39 dX7_harvests_40 rfl ?_
        refine aw_iload dX7_harvests_43 rfl ?_
        refine aw_iaload dX7_harvests_45 m_a1 (by omega) (by omega) ?_
        rw [e0]
        refine aw_iaddr dX7_harvests_46 (by omega) ?_
        refine aw_istore3 dX7_harvests_47 (by decide) rfl ?_
        refine gm_7 rfl dX7_harvests_48 dX7_harvests_49 rfl ?_
        refine aw_iload dX7_harvests_52 rfl ?_
        refine aw_iconst dX7_harvests_54 (by decide) ?_
        refine aw_iastore dX7_harvests_55 m_a1 (by omega) (by omega) ?_
        refine aw_iinc4r dX7_harvests_56 (by decide) (by decide) rfl (by omega) ?_
        refine aw_goto (tgt := 5) dX7_harvests_59 (by decide) ?_
        first
          | (rw [show sv 0 (sh (64 + 198 * k) (ct 1) (16 * f + j)) = 0 by unfold sv; rw [if_pos rfl, if_neg (by omega)], Int.add_zero] at ih
             exact ih _ _ (by omega) (by rw [Int.natCast_add, Int.natCast_one, ← harC_skip (by omega) (by omega)]; exact g2) g3)
          | (rw [show sv 0 (sh (64 + 198 * k) (ct 1) (16 * f + j)) = sh (64 + 198 * k) (ct 1) (16 * f + j) by unfold sv; rw [if_pos rfl, if_pos (by omega)]] at ih
             refine ih _ _ (by omega) ?_ (fun b b1 => by rw [aup_rn b1]; exact g3 b b1)
             rw [aup_r, g2, Int.natCast_add, Int.natCast_one, ← harC_put (by omega) (by omega), us_upA, show 64 + 198 * k + 6 + 16 * f + (j : Int) = 64 + 198 * k + 6 + (16 * f + j) by omega])
      · refine aw_goto (tgt := 56) dX7_harvests_35 (by decide) ?_
        refine aw_iinc4r dX7_harvests_56 (by decide) (by decide) rfl (by omega) ?_
        refine aw_goto (tgt := 5) dX7_harvests_59 (by decide) ?_
        first
          | (rw [show sv 0 (sh (64 + 198 * k) (ct 1) (16 * f + j)) = 0 by unfold sv; rw [if_pos rfl, if_neg (by omega)], Int.add_zero] at ih
             exact ih _ _ (by omega) (by rw [Int.natCast_add, Int.natCast_one, ← harC_skip (by omega) (by omega)]; exact g2) g3)
          | (rw [show sv 0 (sh (64 + 198 * k) (ct 1) (16 * f + j)) = sh (64 + 198 * k) (ct 1) (16 * f + j) by unfold sv; rw [if_pos rfl, if_pos (by omega)]] at ih
             refine ih _ _ (by omega) ?_ (fun b b1 => by rw [aup_rn b1]; exact g3 b b1)
             rw [aup_r, g2, Int.natCast_add, Int.natCast_one, ← harC_put (by omega) (by omega), us_upA, show 64 + 198 * k + 6 + 16 * f + (j : Int) = 64 + 198 * k + 6 + (16 * f + j) by omega])
theorem C_m_harvests {ct : Int → Int → Int} {k f : Int} {Q : aPost} (hF : Fok ct) (k0 : 0 ≤ k ∧ k < 4) (hn : 1 ≤ ct 1 (64 + 198 * k) ∧ ct 1 (64 + 198 * k) ≤ 12) (hr : rgF (ct 1 (64 + 198 * k)) (sh (64 + 198 * k) (ct 1))) (f0 : 0 ≤ f) (f1 : f < ct 1 (64 + 198 * k)) (hQ : ∀ ct' : Int → Int → Int, Fok ct' → ct' 1 = haK (ct 1) k f → mfr ct ct' → Q (.inl (some (vI (harN f 16 (sh (64 + 198 * k) (ct 1)))))) (gM ct')) : AMet md_X7_harvests 3 0 0 [vR 0, vI k, vI f] (gM ct) Q := by
  refine AMet.go (L := [some (vR 0), some (vI k), some (vI f), none, none, none]) mok_X7_harvests (Nat.le_of_ble_eq_true rfl) rfl ?_
  refine aw_iconst dX7_harvests_0 (by decide) ?_
  refine aw_istore3 dX7_harvests_1 (by decide) rfl ?_
  refine aw_iconst dX7_harvests_2 (by decide) ?_
  refine aw_istore4 dX7_harvests_3 (by decide) rfl ?_
  exact L_m_harv (by omega) hF k0 hn hr f0 f1 hQ 16 0 ct _ (by omega) (by rw [show ((0 : Nat) : Int) = 0 by rfl, harC_0, us_sh]) (fun _ _ => rfl)
theorem L_m_moves {ct : Int → Int → Int} {a b : Int} {Q : aPost} {d kc ks : Nat} (ha : 0 ≤ a ∧ a + 16 ≤ 7578) (hb : 0 ≤ b ∧ b + 16 ≤ 7578) (hab : a + 16 ≤ b ∨ b + 16 ≤ a) (hQ : ∀ ct' : Int → Int → Int, ct' 1 = mvS a b 16 (ct 1) → (∀ b, b ≠ 1 → ct' b = ct b) → Q (.inl none) (gM ct')) :
    ∀ (r j : Nat) (ct1 : Int → Int → Int) (x4 : Option aV), j + r = 16 → ct1 1 = mvS a b j (ct 1) → (∀ b, b ≠ 1 → ct1 b = ct b) →
    AW (mq Q) md_X7_moves d kc ks 2 [some (vR 0), some (vI a), some (vI b), some (vI j), x4] [] (gM ct1) := by
  intro r
  induction r with
  | zero =>
    intro j ct1 x4 g1 g2 g3
    have ej : j = 16 := by omega
    subst ej
    refine aw_iload_n dX7_moves_2 rfl ?_
    refine aw_bipush dX7_moves_3 (by decide) ?_
    refine aw_icmpge (tgt := 50) dX7_moves_5 (by decide) (fun h5 => ?_) (fun h5 => ?_)
    · refine aw_ret dX7_moves_50 rfl ?_
      exact hQ _ g2 g3
    · exfalso; omega
  | succ r ih =>
    intro j ct1 x4 g1 g2 g3
    have ea : ct1 1 (a + j) = ct 1 (a + j) := by rw [g2]; unfold mvS; rw [if_neg (by omega), if_neg (by omega)]
    have eb : ct1 1 (b + j) = ct 1 (b + j) := by rw [g2]; unfold mvS; rw [if_neg (by omega), if_neg (by omega)]
    refine aw_iload_n dX7_moves_2 rfl ?_
    refine aw_bipush dX7_moves_3 (by decide) ?_
    refine aw_icmpge (tgt := 50) dX7_moves_5 (by decide) (fun h5 => ?_) (fun h5 => ?_)
    · exfalso; omega
    · refine gm_7 rfl dX7_moves_8 dX7_moves_9 rfl ?_
      refine aw_iload_n dX7_moves_12 rfl ?_
      refine aw_iload_n dX7_moves_13 rfl ?_
      refine aw_iaddr dX7_moves_14 (by omega) ?_
      refine aw_iaload dX7_moves_15 m_a1 (by omega) (by omega) ?_
      rw [ea]
      refine aw_istore4 dX7_moves_16 (by decide) rfl ?_
      refine gm_7 rfl dX7_moves_18 dX7_moves_19 rfl ?_
      refine aw_iload_n dX7_moves_22 rfl ?_
      refine aw_iload_n dX7_moves_23 rfl ?_
      refine aw_iaddr dX7_moves_24 (by omega) ?_
      refine gm_7 rfl dX7_moves_25 dX7_moves_26 rfl ?_
      refine aw_iload_n dX7_moves_29 rfl ?_
      refine aw_iload_n dX7_moves_30 rfl ?_
      refine aw_iaddr dX7_moves_31 (by omega) ?_
      refine aw_iaload dX7_moves_32 m_a1 (by omega) (by omega) ?_
      rw [eb]
      refine aw_iastore dX7_moves_33 m_a1 (by omega) (by omega) ?_
      refine gm_7 rfl dX7_moves_34 dX7_moves_35 rfl ?_
      refine aw_iload_n dX7_moves_38 rfl ?_
      refine aw_iload_n dX7_moves_39 rfl ?_
      refine aw_iaddr dX7_moves_40 (by omega) ?_
      refine aw_iload dX7_moves_41 rfl ?_
      refine aw_iastore dX7_moves_43 m_a1 (by omega) (by omega) ?_
      refine aw_iinc3r dX7_moves_44 (by decide) (by decide) rfl (by omega) ?_
      refine aw_goto (tgt := 2) dX7_moves_47 (by decide) ?_
      refine ih (j + 1) _ _ (by omega) ?_ (fun b b1 => by rw [aup_rn b1, aup_rn b1]; exact g3 b b1)
      rw [aup_r, aup_r, g2, Int.natCast_add, Int.natCast_one]
      exact mvS_put (by omega) (by omega) hab
theorem C_m_moves {ct : Int → Int → Int} {a b : Int} {Q : aPost} (ha : 0 ≤ a ∧ a + 16 ≤ 7578) (hb : 0 ≤ b ∧ b + 16 ≤ 7578) (hab : a + 16 ≤ b ∨ b + 16 ≤ a) (hQ : ∀ ct' : Int → Int → Int, ct' 1 = mvS a b 16 (ct 1) → (∀ b, b ≠ 1 → ct' b = ct b) → Q (.inl none) (gM ct')) : AMet md_X7_moves 1 0 0 [vR 0, vI a, vI b] (gM ct) Q := by
  refine AMet.go (L := [some (vR 0), some (vI a), some (vI b), none, none]) mok_X7_moves (Nat.le_of_ble_eq_true rfl) rfl ?_
  refine aw_iconst dX7_moves_0 (by decide) ?_
  refine aw_istore3 dX7_moves_1 (by decide) rfl ?_
  exact L_m_moves (ct := ct) ha hb hab hQ 16 0 ct _ (by omega) mvS_0.symm (fun _ _ => rfl)
theorem L_m_hiveOf {ct : Int → Int → Int} {q : Int} {Q : aPost} {d kc ks : Nat} (hd : 2 ≤ d) (h0 : 0 ≤ ct 1 0 ∧ ct 1 0 ≤ 4) (hT : ∀ k, 0 ≤ k → k < ct 1 0 → ct 1 (64 + 198 * k + 3) = q → (∀ j, 0 ≤ j → j < k → ct 1 (64 + 198 * j + 3) ≠ q) → Q (.inl (some (vI k))) (gM ct)) (hN : (∀ j, 0 ≤ j → j < ct 1 0 → ct 1 (64 + 198 * j + 3) ≠ q) → Q (.inl (some (vI (-1)))) (gM ct)) : ∀ (r : Nat) (k : Int), k + r = ct 1 0 → 0 ≤ k → (∀ j, 0 ≤ j → j < k → ct 1 (64 + 198 * j + 3) ≠ q) →
    AW (mq Q) md_X7_hiveOf d kc ks 2 [some (vR 0), some (vI q), some (vI k)] [] (gM ct) := by
  intro r
  induction r with
  | zero =>
    intro k g1 g2 g3
    refine aw_iload_n dX7_hiveOf_2 rfl ?_
    refine gm_7 rfl dX7_hiveOf_3 dX7_hiveOf_4 rfl ?_
    refine aw_iconst dX7_hiveOf_7 (by decide) ?_
    refine aw_iaload dX7_hiveOf_8 m_a1 (by omega) (by omega) ?_
    refine aw_icmpge (tgt := 35) dX7_hiveOf_9 (by decide) (fun h9 => ?_) (fun h9 => ?_)
    · refine aw_iconst dX7_hiveOf_35 (by decide) ?_
      refine aw_ireturn dX7_hiveOf_36 rfl ?_
      exact hN fun j j0 j1 => g3 j j0 (by omega)
    · exfalso; omega
  | succ r ih =>
    intro k g1 g2 g3
    refine aw_iload_n dX7_hiveOf_2 rfl ?_
    refine gm_7 rfl dX7_hiveOf_3 dX7_hiveOf_4 rfl ?_
    refine aw_iconst dX7_hiveOf_7 (by decide) ?_
    refine aw_iaload dX7_hiveOf_8 m_a1 (by omega) (by omega) ?_
    refine aw_icmpge (tgt := 35) dX7_hiveOf_9 (by decide) (fun h9 => ?_) (fun h9 => ?_)
    · exfalso; omega
    · refine gm_7 rfl dX7_hiveOf_12 dX7_hiveOf_13 rfl ?_
      refine aw_iload_n dX7_hiveOf_16 rfl ?_
      refine c_X7_217 rfl dX7_hiveOf_17  (Nat.le_of_ble_eq_true rfl) (by omega) (C_m_hiveRow (by omega) ?_)
      refine aK_i ?_
      refine aw_iconst dX7_hiveOf_20 (by decide) ?_
      refine aw_iaddr dX7_hiveOf_21 (by omega) ?_
      refine aw_iaload dX7_hiveOf_22 m_a1 (by omega) (by omega) ?_
      refine aw_iload_n dX7_hiveOf_23 rfl ?_
      refine aw_icmpne (tgt := 29) dX7_hiveOf_24 (by decide) (fun h24 => ?_) (fun h24 => ?_)
      · refine aw_iinc2r dX7_hiveOf_29 (by decide) (by decide) rfl (by omega) ?_
        refine aw_goto (tgt := 2) dX7_hiveOf_32 (by decide) ?_
        refine ih _ (by omega) (by omega) (fun j j0 j1 => ?_)
        by_cases e : j = k
        · subst e; omega
        · exact g3 j j0 (by omega)
      · refine aw_iload_n dX7_hiveOf_27 rfl ?_
        refine aw_ireturn dX7_hiveOf_28 rfl ?_
        exact hT k g2 (by omega) (by omega) g3
theorem C_m_hiveOf {ct : Int → Int → Int} {q : Int} {Q : aPost} (h0 : 0 ≤ ct 1 0 ∧ ct 1 0 ≤ 4) (hT : ∀ k, 0 ≤ k → k < ct 1 0 → ct 1 (64 + 198 * k + 3) = q → (∀ j, 0 ≤ j → j < k → ct 1 (64 + 198 * j + 3) ≠ q) → Q (.inl (some (vI k))) (gM ct)) (hN : (∀ j, 0 ≤ j → j < ct 1 0 → ct 1 (64 + 198 * j + 3) ≠ q) → Q (.inl (some (vI (-1)))) (gM ct)) : AMet md_X7_hiveOf 2 0 0 [vR 0, vI q] (gM ct) Q := by
  refine AMet.go (L := [some (vR 0), some (vI q), none]) mok_X7_hiveOf (Nat.le_of_ble_eq_true rfl) rfl ?_
  refine aw_iconst dX7_hiveOf_0 (by decide) ?_
  refine aw_istore2 dX7_hiveOf_1 (by decide) rfl ?_
  exact L_m_hiveOf (by omega) h0 hT hN (ct 1 0).toNat 0 (by omega) (by omega) (fun j j0 j1 => by omega)
theorem C_m_maySeat {ct : Int → Int → Int} {q k : Int} {Q : aPost} (h0 : 0 ≤ ct 1 0 ∧ ct 1 0 ≤ 4) (k0 : 0 ≤ k ∧ k < 4) (hT : mst (ct 1) q k → Q (.inl (some (vI 1))) (gM ct)) (hF : ¬ mst (ct 1) q k → Q (.inl (some (vI 0))) (gM ct)) : AMet md_X7_maySeat 3 0 0 [vR 0, vI q, vI k] (gM ct) Q := by
  refine AMet.go (L := [some (vR 0), some (vI q), some (vI k)]) mok_X7_maySeat (Nat.le_of_ble_eq_true rfl) rfl ?_
  refine aw_aload_n dX7_maySeat_0 rfl ?_
  refine aw_iload_n dX7_maySeat_1 rfl ?_
  refine c_X7_295 rfl dX7_maySeat_2 m_ob (Nat.le_of_ble_eq_true rfl) (by omega) (C_m_hiveOf h0 (fun k9 a0 a1 a2 a3 => ?_) (fun hno => ?_))
  · refine aK_i ?_
    refine aw_iconst dX7_maySeat_5 (by decide) ?_
    refine aw_icmpne (tgt := 39) dX7_maySeat_6 (by decide) (fun h6 => ?_) (fun h6 => ?_)
    · refine aw_iconst dX7_maySeat_39 (by decide) ?_
      refine aw_zreturn dX7_maySeat_40 rfl (Or.inl rfl) ?_
      refine hF fun z => ?_
      first
        | exact z.1 k9 a0 a1 a2
        | exact absurd z.2.1 (by omega)
        | exact absurd z.2.2 (by omega)
    · refine gm_7 rfl dX7_maySeat_9 dX7_maySeat_10 rfl ?_
      refine aw_bipush dX7_maySeat_13 (by decide) ?_
      refine aw_iaload dX7_maySeat_15 m_a1 (by omega) (by omega) ?_
      refine aw_iload_n dX7_maySeat_16 rfl ?_
      refine aw_icmpeq (tgt := 39) dX7_maySeat_17 (by decide) (fun h17 => ?_) (fun h17 => ?_)
      · refine aw_iconst dX7_maySeat_39 (by decide) ?_
        refine aw_zreturn dX7_maySeat_40 rfl (Or.inl rfl) ?_
        refine hF fun z => ?_
        first
          | exact z.1 k9 a0 a1 a2
          | exact absurd z.2.1 (by omega)
          | exact absurd z.2.2 (by omega)
      · refine gm_7 rfl dX7_maySeat_20 dX7_maySeat_21 rfl ?_
        refine aw_iload_n dX7_maySeat_24 rfl ?_
        refine c_X7_217 rfl dX7_maySeat_25  (Nat.le_of_ble_eq_true rfl) (by omega) (C_m_hiveRow (by omega) ?_)
        refine aK_i ?_
        refine aw_iconst dX7_maySeat_28 (by decide) ?_
        refine aw_iaddr dX7_maySeat_29 (by omega) ?_
        refine aw_iaload dX7_maySeat_30 m_a1 (by omega) (by omega) ?_
        refine aw_iconst dX7_maySeat_31 (by decide) ?_
        refine aw_icmpne (tgt := 39) dX7_maySeat_32 (by decide) (fun h32 => ?_) (fun h32 => ?_)
        · refine aw_iconst dX7_maySeat_39 (by decide) ?_
          refine aw_zreturn dX7_maySeat_40 rfl (Or.inl rfl) ?_
          refine hF fun z => ?_
          first
            | exact z.1 k9 a0 a1 a2
            | exact absurd z.2.1 (by omega)
            | exact absurd z.2.2 (by omega)
        · refine aw_iconst dX7_maySeat_35 (by decide) ?_
          refine aw_goto (tgt := 40) dX7_maySeat_36 (by decide) ?_
          refine aw_zreturn dX7_maySeat_40 rfl (Or.inr rfl) ?_
          first
            | (exfalso; omega)
            | exact hT ⟨hno, by omega, by omega⟩
  · refine aK_i ?_
    refine aw_iconst dX7_maySeat_5 (by decide) ?_
    refine aw_icmpne (tgt := 39) dX7_maySeat_6 (by decide) (fun h6 => ?_) (fun h6 => ?_)
    · refine aw_iconst dX7_maySeat_39 (by decide) ?_
      refine aw_zreturn dX7_maySeat_40 rfl (Or.inl rfl) ?_
      refine hF fun z => ?_
      first
        | exact z.1 k9 a0 a1 a2
        | exact absurd z.2.1 (by omega)
        | exact absurd z.2.2 (by omega)
    · refine gm_7 rfl dX7_maySeat_9 dX7_maySeat_10 rfl ?_
      refine aw_bipush dX7_maySeat_13 (by decide) ?_
      refine aw_iaload dX7_maySeat_15 m_a1 (by omega) (by omega) ?_
      refine aw_iload_n dX7_maySeat_16 rfl ?_
      refine aw_icmpeq (tgt := 39) dX7_maySeat_17 (by decide) (fun h17 => ?_) (fun h17 => ?_)
      · refine aw_iconst dX7_maySeat_39 (by decide) ?_
        refine aw_zreturn dX7_maySeat_40 rfl (Or.inl rfl) ?_
        refine hF fun z => ?_
        first
          | exact z.1 k9 a0 a1 a2
          | exact absurd z.2.1 (by omega)
          | exact absurd z.2.2 (by omega)
      · refine gm_7 rfl dX7_maySeat_20 dX7_maySeat_21 rfl ?_
        refine aw_iload_n dX7_maySeat_24 rfl ?_
        refine c_X7_217 rfl dX7_maySeat_25  (Nat.le_of_ble_eq_true rfl) (by omega) (C_m_hiveRow (by omega) ?_)
        refine aK_i ?_
        refine aw_iconst dX7_maySeat_28 (by decide) ?_
        refine aw_iaddr dX7_maySeat_29 (by omega) ?_
        refine aw_iaload dX7_maySeat_30 m_a1 (by omega) (by omega) ?_
        refine aw_iconst dX7_maySeat_31 (by decide) ?_
        refine aw_icmpne (tgt := 39) dX7_maySeat_32 (by decide) (fun h32 => ?_) (fun h32 => ?_)
        · refine aw_iconst dX7_maySeat_39 (by decide) ?_
          refine aw_zreturn dX7_maySeat_40 rfl (Or.inl rfl) ?_
          refine hF fun z => ?_
          first
            | exact z.1 k9 a0 a1 a2
            | exact absurd z.2.1 (by omega)
            | exact absurd z.2.2 (by omega)
        · refine aw_iconst dX7_maySeat_35 (by decide) ?_
          refine aw_goto (tgt := 40) dX7_maySeat_36 (by decide) ?_
          refine aw_zreturn dX7_maySeat_40 rfl (Or.inr rfl) ?_
          first
            | (exfalso; omega)
            | exact hT ⟨hno, by omega, by omega⟩
theorem C_m_isCrowded {ct : Int → Int → Int} {k : Int} {Q : aPost} (k0 : 0 ≤ k ∧ k < 4) (hn : 1 ≤ ct 1 (64 + 198 * k) ∧ ct 1 (64 + 198 * k) ≤ 12) (hr : rgF (ct 1 (64 + 198 * k)) (sh (64 + 198 * k) (ct 1))) (hT : crw (ct 1) k → Q (.inl (some (vI 1))) (gM ct)) (hF : ¬ crw (ct 1) k → Q (.inl (some (vI 0))) (gM ct)) : AMet md_X7_isCrowded 3 0 0 [vR 0, vI k] (gM ct) Q := by
  refine AMet.go (L := [some (vR 0), some (vI k), none]) mok_X7_isCrowded (Nat.le_of_ble_eq_true rfl) rfl ?_
  refine aw_iload_n dX7_isCrowded_0 rfl ?_
  refine c_X7_217 rfl dX7_isCrowded_1  (Nat.le_of_ble_eq_true rfl) (by omega) (C_m_hiveRow (by omega) ?_)
  refine aK_i ?_
  refine aw_istore2 dX7_isCrowded_4 (by decide) rfl ?_
  refine gm_7 rfl dX7_isCrowded_5 dX7_isCrowded_6 rfl ?_
  refine aw_iload_n dX7_isCrowded_9 rfl ?_
  refine aw_iconst dX7_isCrowded_10 (by decide) ?_
  refine aw_iaddr dX7_isCrowded_11 (by omega) ?_
  refine aw_iaload dX7_isCrowded_12 m_a1 (by omega) (by omega) ?_
  refine aw_iconst dX7_isCrowded_13 (by decide) ?_
  refine aw_icmpeq (tgt := 43) dX7_isCrowded_14 (by decide) (fun h14 => ?_) (fun h14 => ?_)
  · refine aw_iconst dX7_isCrowded_43 (by decide) ?_
    refine aw_zreturn dX7_isCrowded_44 rfl (Or.inl rfl) ?_
    refine hF fun z => ?_
    obtain ⟨z1, z2, z3⟩ := z
    omega
  · refine gm_7 rfl dX7_isCrowded_17 dX7_isCrowded_18 rfl ?_
    refine aw_iload_n dX7_isCrowded_21 rfl ?_
    refine aw_iconst dX7_isCrowded_22 (by decide) ?_
    refine aw_iaddr dX7_isCrowded_23 (by omega) ?_
    refine aw_iaload dX7_isCrowded_24 m_a1 (by omega) (by omega) ?_
    refine aw_bipush dX7_isCrowded_25 (by decide) ?_
    refine aw_icmplt (tgt := 43) dX7_isCrowded_27 (by decide) (fun h27 => ?_) (fun h27 => ?_)
    · refine aw_iconst dX7_isCrowded_43 (by decide) ?_
      refine aw_zreturn dX7_isCrowded_44 rfl (Or.inl rfl) ?_
      refine hF fun z => ?_
      obtain ⟨z1, z2, z3⟩ := z
      omega
    · refine aw_aload_n dX7_isCrowded_30 rfl ?_
      refine aw_iload_n dX7_isCrowded_31 rfl ?_
      refine aw_iconst dX7_isCrowded_32 (by decide) ?_
      refine c_X7_283 rfl dX7_isCrowded_33 m_ob (Nat.le_of_ble_eq_true rfl) (by omega) (C_m_sumOf rfl hn (by omega) hr ?_)
      refine aK_i ?_
      refine aw_ifne (tgt := 43) dX7_isCrowded_36 (by decide) (fun h36 => ?_) (fun h36 => ?_)
      · refine aw_iconst dX7_isCrowded_43 (by decide) ?_
        refine aw_zreturn dX7_isCrowded_44 rfl (Or.inl rfl) ?_
        refine hF fun z => ?_
        obtain ⟨z1, z2, z3⟩ := z
        omega
      · refine aw_iconst dX7_isCrowded_39 (by decide) ?_
        refine aw_goto (tgt := 44) dX7_isCrowded_40 (by decide) ?_
        refine aw_zreturn dX7_isCrowded_44 rfl (Or.inr rfl) ?_
        exact hT ⟨by omega, by omega, by omega⟩
theorem C_m_mayMove {ct : Int → Int → Int} {h f g e : Int} {Q : aPost} (hm : ct 1 0 ≤ 4) (hT : ((0 ≤ h ∧ h < ct 1 0) ∧ 0 ≤ f ∧ f < ct 1 (64 + 198 * h)) ∧ ((0 ≤ g ∧ g < ct 1 0) ∧ 0 ≤ e ∧ e < ct 1 (64 + 198 * g)) ∧ (h ≠ g ∨ f ≠ e) → Q (.inl (some (vI 1))) (gM ct)) (hF : ¬ (((0 ≤ h ∧ h < ct 1 0) ∧ 0 ≤ f ∧ f < ct 1 (64 + 198 * h)) ∧ ((0 ≤ g ∧ g < ct 1 0) ∧ 0 ≤ e ∧ e < ct 1 (64 + 198 * g)) ∧ (h ≠ g ∨ f ≠ e)) → Q (.inl (some (vI 0))) (gM ct)) : AMet md_X7_mayMove 3 0 0 [vR 0, vI h, vI f, vI g, vI e] (gM ct) Q := by
  refine AMet.go (L := [some (vR 0), some (vI h), some (vI f), some (vI g), some (vI e)]) mok_X7_mayMove (Nat.le_of_ble_eq_true rfl) rfl ?_
  refine aw_aload_n dX7_mayMove_0 rfl ?_
  refine aw_iload_n dX7_mayMove_1 rfl ?_
  refine aw_iload_n dX7_mayMove_2 rfl ?_
  refine c_X7_298 rfl dX7_mayMove_3 m_ob (Nat.le_of_ble_eq_true rfl) (by omega) (C_m_isFrame hm (fun hf1 => ?_) (fun hf1 => ?_))
  · refine aK_i ?_
    refine aw_ifeq (tgt := 34) dX7_mayMove_6 (by decide) (fun h => absurd h (by decide)) (fun _ => ?_)
    refine aw_aload_n dX7_mayMove_9 rfl ?_
    refine aw_iload_n dX7_mayMove_10 rfl ?_
    refine aw_iload dX7_mayMove_11 rfl ?_
    refine c_X7_298 rfl dX7_mayMove_13 m_ob (Nat.le_of_ble_eq_true rfl) (by omega) (C_m_isFrame hm (fun hf2 => ?_) (fun hf2 => ?_))
    · refine aK_i ?_
      refine aw_ifeq (tgt := 34) dX7_mayMove_16 (by decide) (fun h => absurd h (by decide)) (fun _ => ?_)
      refine aw_iload_n dX7_mayMove_19 rfl ?_
      refine aw_iload_n dX7_mayMove_20 rfl ?_
      refine aw_icmpne (tgt := 30) dX7_mayMove_21 (by decide) (fun h21 => ?_) (fun h21 => ?_)
      · refine aw_iconst dX7_mayMove_30 (by decide) ?_
        refine aw_goto (tgt := 35) dX7_mayMove_31 (by decide) ?_
        refine aw_zreturn dX7_mayMove_35 rfl (Or.inr rfl) ?_
        exact hT ⟨hf1, hf2, by omega⟩
      · refine aw_iload_n dX7_mayMove_24 rfl ?_
        refine aw_iload dX7_mayMove_25 rfl ?_
        refine aw_icmpeq (tgt := 34) dX7_mayMove_27 (by decide) (fun h27 => ?_) (fun h27 => ?_)
        · refine aw_iconst dX7_mayMove_34 (by decide) ?_
          refine aw_zreturn dX7_mayMove_35 rfl (Or.inl rfl) ?_
          refine hF fun z => ?_
          first
            | exact hf1 z.1
            | exact hf2 z.2.1
            | exact absurd z.2.2 (by omega)
        · refine aw_iconst dX7_mayMove_30 (by decide) ?_
          refine aw_goto (tgt := 35) dX7_mayMove_31 (by decide) ?_
          refine aw_zreturn dX7_mayMove_35 rfl (Or.inr rfl) ?_
          exact hT ⟨hf1, hf2, by omega⟩
    · refine aK_i ?_
      refine aw_ifeq (tgt := 34) dX7_mayMove_16 (by decide) (fun _ => ?_) (fun h => absurd h (by decide))
      refine aw_iconst dX7_mayMove_34 (by decide) ?_
      refine aw_zreturn dX7_mayMove_35 rfl (Or.inl rfl) ?_
      refine hF fun z => ?_
      first
        | exact hf1 z.1
        | exact hf2 z.2.1
        | exact absurd z.2.2 (by omega)
  · refine aK_i ?_
    refine aw_ifeq (tgt := 34) dX7_mayMove_6 (by decide) (fun _ => ?_) (fun h => absurd h (by decide))
    refine aw_iconst dX7_mayMove_34 (by decide) ?_
    refine aw_zreturn dX7_mayMove_35 rfl (Or.inl rfl) ?_
    refine hF fun z => ?_
    first
      | exact hf1 z.1
      | exact hf2 z.2.1
      | exact absurd z.2.2 (by omega)
theorem L_m_tries {ct : Int → Int → Int} {k : Int} {Q : aPost} {d kc ks : Nat} (hd : 2 ≤ d) (k0 : 0 ≤ k ∧ k < 4) (hQ : ∀ ct' : Int → Int → Int, ct' 1 = cpR (64 + 198 * k) 7380 198 (ct 1) → (∀ b, b ≠ 1 → ct' b = ct b) → Q (.inl none) (gM ct')) :
    ∀ (r j : Nat) (ct1 : Int → Int → Int), j + r = 198 → ct1 1 = cpR (64 + 198 * k) 7380 j (ct 1) → (∀ b, b ≠ 1 → ct1 b = ct b) →
    AW (mq Q) md_X7_tries d kc ks 2 [some (vR 0), some (vI k), some (vI j)] [] (gM ct1) := by
  intro r
  induction r with
  | zero =>
    intro j ct1 g1 g2 g3
    have ej : j = 198 := by omega
    subst ej
    refine aw_iload_n dX7_tries_2 rfl ?_
    refine aw_sipush dX7_tries_3 (by decide) ?_
    refine aw_icmpge (tgt := 36) dX7_tries_6 (by decide) (fun h6 => ?_) (fun h6 => ?_)
    · refine aw_ret dX7_tries_36 rfl ?_
      exact hQ _ g2 g3
    · exfalso; omega
  | succ r ih =>
    intro j ct1 g1 g2 g3
    have ea : ct1 1 (64 + 198 * k + j) = ct 1 (64 + 198 * k + j) := by rw [g2]; exact cpR_at (by omega)
    refine aw_iload_n dX7_tries_2 rfl ?_
    refine aw_sipush dX7_tries_3 (by decide) ?_
    refine aw_icmpge (tgt := 36) dX7_tries_6 (by decide) (fun h6 => ?_) (fun h6 => ?_)
    · exfalso; omega
    · refine gm_7 rfl dX7_tries_9 dX7_tries_10 rfl ?_
      refine aw_sipush dX7_tries_13 (by decide) ?_
      refine aw_iload_n dX7_tries_16 rfl ?_
      refine aw_iaddr dX7_tries_17 (by omega) ?_
      refine gm_7 rfl dX7_tries_18 dX7_tries_19 rfl ?_
      refine aw_iload_n dX7_tries_22 rfl ?_
      refine c_X7_217 rfl dX7_tries_23  (Nat.le_of_ble_eq_true rfl) (by omega) (C_m_hiveRow (by omega) ?_)
      refine aK_i ?_
      refine aw_iload_n dX7_tries_26 rfl ?_
      refine aw_iaddr dX7_tries_27 (by omega) ?_
      refine aw_iaload dX7_tries_28 m_a1 (by omega) (by omega) ?_
      rw [ea]
      refine aw_iastore dX7_tries_29 m_a1 (by omega) (by omega) ?_
      refine aw_iinc2r dX7_tries_30 (by decide) (by decide) rfl (by omega) ?_
      refine aw_goto (tgt := 2) dX7_tries_33 (by decide) ?_
      refine ih (j + 1) _ (by omega) ?_ (fun b b1 => by rw [aup_rn b1]; exact g3 b b1)
      rw [aup_r, g2, Int.natCast_add, Int.natCast_one]
      exact cpR_put (by omega)
theorem C_m_tries {ct : Int → Int → Int} {k : Int} {Q : aPost} (k0 : 0 ≤ k ∧ k < 4) (hQ : ∀ ct' : Int → Int → Int, ct' 1 = cpR (64 + 198 * k) 7380 198 (ct 1) → (∀ b, b ≠ 1 → ct' b = ct b) → Q (.inl none) (gM ct')) : AMet md_X7_tries 2 0 0 [vR 0, vI k] (gM ct) Q := by
  refine AMet.go (L := [some (vR 0), some (vI k), none]) mok_X7_tries (Nat.le_of_ble_eq_true rfl) rfl ?_
  refine aw_iconst dX7_tries_0 (by decide) ?_
  refine aw_istore2 dX7_tries_1 (by decide) rfl ?_
  exact L_m_tries (ct := ct) (by omega) k0 hQ 198 0 ct (by omega) cpR_0.symm (fun _ _ => rfl)
theorem L_m_copies1 {ct : Int → Int → Int} {f t : Int} {Q : aPost} {d kc ks : Nat} (hf : 0 ≤ f ∧ f < 4) (ht : 0 ≤ t ∧ t < 4) (hft : f ≠ t)
    (K : ∀ ct' : Int → Int → Int, ct' 1 = cpR (1230 * f) (1230 * t) 1230 (ct 1) → (∀ b, b ≠ 1 → ct' b = ct b) → AW (mq Q) md_X7_copies d kc ks 41 [some (vR 0), some (vI f), some (vI t), some (vI 0)] [] (gM ct')) :
    ∀ (r j : Nat) (ct1 : Int → Int → Int), j + r = 1230 → ct1 1 = cpR (1230 * f) (1230 * t) j (ct 1) → (∀ b, b ≠ 1 → ct1 b = ct b) →
    AW (mq Q) md_X7_copies d kc ks 2 [some (vR 0), some (vI f), some (vI t), some (vI j)] [] (gM ct1) := by
  intro r
  induction r with
  | zero =>
    intro j ct1 g1 g2 g3
    have ej : j = 1230 := by omega
    subst ej
    refine aw_iload_n dX7_copies_2 rfl ?_
    refine aw_sipush dX7_copies_3 (by decide) ?_
    refine aw_icmpge (tgt := 39) dX7_copies_6 (by decide) (fun h6 => ?_) (fun h6 => ?_)
    · refine aw_iconst dX7_copies_39 (by decide) ?_
      refine aw_istore3 dX7_copies_40 (by decide) rfl ?_
      exact K _ g2 g3
    · exfalso; omega
  | succ r ih =>
    intro j ct1 g1 g2 g3
    have ea : ct1 1 (1230 * f + j) = ct 1 (1230 * f + j) := by rw [g2]; exact cpR_at (by omega)
    refine aw_iload_n dX7_copies_2 rfl ?_
    refine aw_sipush dX7_copies_3 (by decide) ?_
    refine aw_icmpge (tgt := 39) dX7_copies_6 (by decide) (fun h6 => ?_) (fun h6 => ?_)
    · exfalso; omega
    · refine gm_7 rfl dX7_copies_9 dX7_copies_10 rfl ?_
      refine aw_sipush dX7_copies_13 (by decide) ?_
      refine aw_iload_n dX7_copies_16 rfl ?_
      refine aw_imulr dX7_copies_17 (by omega) ?_
      refine aw_iload_n dX7_copies_18 rfl ?_
      refine aw_iaddr dX7_copies_19 (by omega) ?_
      refine gm_7 rfl dX7_copies_20 dX7_copies_21 rfl ?_
      refine aw_sipush dX7_copies_24 (by decide) ?_
      refine aw_iload_n dX7_copies_27 rfl ?_
      refine aw_imulr dX7_copies_28 (by omega) ?_
      refine aw_iload_n dX7_copies_29 rfl ?_
      refine aw_iaddr dX7_copies_30 (by omega) ?_
      refine aw_iaload dX7_copies_31 m_a1 (by omega) (by omega) ?_
      rw [ea]
      refine aw_iastore dX7_copies_32 m_a1 (by omega) (by omega) ?_
      refine aw_iinc3r dX7_copies_33 (by decide) (by decide) rfl (by omega) ?_
      refine aw_goto (tgt := 2) dX7_copies_36 (by decide) ?_
      refine ih (j + 1) _ (by omega) ?_ (fun b b1 => by rw [aup_rn b1]; exact g3 b b1)
      rw [aup_r, g2, Int.natCast_add, Int.natCast_one]
      exact cpR_put (by omega)
theorem L_m_copies2 {ct : Int → Int → Int} {f t : Int} {Q : aPost} {d kc ks : Nat} (hf : 0 ≤ f ∧ f < 4) (ht : 0 ≤ t ∧ t < 4) (hft : f ≠ t)
    (K : ∀ ct' : Int → Int → Int, ct' 2 = cpR (20 * f) (20 * t) 20 (ct 2) → (∀ b, b ≠ 2 → ct' b = ct b) → Q (.inl none) (gM ct')) :
    ∀ (r j : Nat) (ct1 : Int → Int → Int), j + r = 20 → ct1 2 = cpR (20 * f) (20 * t) j (ct 2) → (∀ b, b ≠ 2 → ct1 b = ct b) →
    AW (mq Q) md_X7_copies d kc ks 41 [some (vR 0), some (vI f), some (vI t), some (vI j)] [] (gM ct1) := by
  intro r
  induction r with
  | zero =>
    intro j ct1 g1 g2 g3
    have ej : j = 20 := by omega
    subst ej
    refine aw_iload_n dX7_copies_41 rfl ?_
    refine aw_bipush dX7_copies_42 (by decide) ?_
    refine aw_icmpge (tgt := 75) dX7_copies_44 (by decide) (fun h44 => ?_) (fun h44 => ?_)
    · refine aw_ret dX7_copies_75 rfl ?_
      exact K _ g2 g3
    · exfalso; omega
  | succ r ih =>
    intro j ct1 g1 g2 g3
    have ea : ct1 2 (20 * f + j) = ct 2 (20 * f + j) := by rw [g2]; exact cpR_at (by omega)
    refine aw_iload_n dX7_copies_41 rfl ?_
    refine aw_bipush dX7_copies_42 (by decide) ?_
    refine aw_icmpge (tgt := 75) dX7_copies_44 (by decide) (fun h44 => ?_) (fun h44 => ?_)
    · exfalso; omega
    · refine gm_13 rfl dX7_copies_47 dX7_copies_48 rfl ?_
      refine aw_bipush dX7_copies_51 (by decide) ?_
      refine aw_iload_n dX7_copies_53 rfl ?_
      refine aw_imulr dX7_copies_54 (by omega) ?_
      refine aw_iload_n dX7_copies_55 rfl ?_
      refine aw_iaddr dX7_copies_56 (by omega) ?_
      refine gm_13 rfl dX7_copies_57 dX7_copies_58 rfl ?_
      refine aw_bipush dX7_copies_61 (by decide) ?_
      refine aw_iload_n dX7_copies_63 rfl ?_
      refine aw_imulr dX7_copies_64 (by omega) ?_
      refine aw_iload_n dX7_copies_65 rfl ?_
      refine aw_iaddr dX7_copies_66 (by omega) ?_
      refine aw_laload dX7_copies_67 m_a2 (by omega) (by omega) ?_
      rw [ea]
      refine aw_lastore dX7_copies_68 m_a2 (by omega) (by omega) ?_
      refine aw_iinc3r dX7_copies_69 (by decide) (by decide) rfl (by omega) ?_
      refine aw_goto (tgt := 41) dX7_copies_72 (by decide) ?_
      refine ih (j + 1) _ (by omega) ?_ (fun b b1 => by rw [aup_rn b1]; exact g3 b b1)
      rw [aup_r, g2, Int.natCast_add, Int.natCast_one]
      exact cpR_put (by omega)
theorem C_m_copies {ct : Int → Int → Int} {f t : Int} {Q : aPost} (hf : 0 ≤ f ∧ f < 4) (ht : 0 ≤ t ∧ t < 4) (hft : f ≠ t) (hQ : ∀ ct' : Int → Int → Int, ct' 1 = cpR (1230 * f) (1230 * t) 1230 (ct 1) → ct' 2 = cpR (20 * f) (20 * t) 20 (ct 2) → (∀ b, b ≠ 1 → b ≠ 2 → ct' b = ct b) → Q (.inl none) (gM ct')) : AMet md_X7_copies 1 0 0 [vR 0, vI f, vI t] (gM ct) Q := by
  refine AMet.go (L := [some (vR 0), some (vI f), some (vI t), none]) mok_X7_copies (Nat.le_of_ble_eq_true rfl) rfl ?_
  refine aw_iconst dX7_copies_0 (by decide) ?_
  refine aw_istore3 dX7_copies_1 (by decide) rfl ?_
  refine L_m_copies1 (ct := ct) hf ht hft (fun ct1 e1 f1 => ?_) 1230 0 ct (by omega) cpR_0.symm (fun _ _ => rfl)
  refine L_m_copies2 (ct := ct1) hf ht hft (fun ct2 e2 f2 => ?_) 20 0 ct1 (by omega) cpR_0.symm (fun _ _ => rfl)
  refine hQ ct2 ?_ ?_ (fun b b1 b2 => ?_)
  · rw [f2 1 (by decide)]; exact e1
  · rw [e2, f1 2 (by decide)]
  · rw [f2 b b2, f1 b b1]
