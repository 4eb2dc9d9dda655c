set_option maxRecDepth 100000
/-! BeeYardModel reads: hives -/
theorem L_m_ah173 {cm cm9 : Int → Int → Int} {tp s N : Int → Int} {n q x m b v m1 : Int} {Q : aPost} {d kc ks : Nat} (hd : 6 ≤ d) (hFk : Fok cm) (hS : SM cm s N) (hy : YI s) (h8 : s 0 ≠ 4) (hne : NE x m1) (H9 : RM cm9 tp n q) (f9 : MF cm cm9) (hm : 1 ≤ m ∧ m ≤ 12) (hv : 0 ≤ v ∧ v ≤ 16 * m) (a0 : cm9 1 (4984 + 198 * s 0) = m) (a1 : cm9 1 (4984 + 198 * s 0 + 1) = b) (a3 : cm9 1 (4984 + 198 * s 0 + 3) = -1) (a6 : cm9 1 6145 = v) (az : ∀ i, i ≠ 4984 + 198 * s 0 → i ≠ 4984 + 198 * s 0 + 1 → i ≠ 4984 + 198 * s 0 + 3 → i ≠ 6145 → i ≠ 6146 → cm9 1 i = cm 1 i) (g2 : cm9 2 = upA (cm 2) (80 + s 0) m1) (hQ : ∀ cm1 : Int → Int → Int, RM cm1 tp n q → MF cm cm1 → SM cm1 (addH s m b v) (upA N (s 0) x) → Q (.inl (some (vI 1))) (gM cm1)) : AW (mq Q) md_X7_aHive d kc ks 173 [some (vR 0), some (vI (4984 + 198 * s 0))] [] (gM cm9) := by
  have P0 := hy.1.1
  have PQ1 := hy.1.2.2.2.1
  have PQ0 := PQ1.1
  have e0 : cm 1 4920 = s 0 := by rw [show (4920 : Int) = 4920 + 0 by decide]; exact hS.1 0 (by decide) (by decide)
  have e4 : cm 1 4924 = s 4 := by rw [show (4924 : Int) = 4920 + 4 by decide]; exact hS.1 4 (by decide) (by decide)
  have hF9 : Fok (aup cm9 1 4924 (s 4 + 100 * v)) := (f9.up1 (by decide)).2.2.2.2 hFk
  have h4 : s 4 = isum (hoK s) (s 0).toNat := hy.2.2.2.1
  have h4b := isum_bd (g := hoK s) (B := 19200) (n := (s 0).toNat) fun i i0 i1 => hoK_bd hy.1 i0 (by omega)
  rw [← h4] at h4b
  have hz : ∀ j, 0 ≤ j → j < 192 → sh (4984 + 198 * s 0) (aup cm9 1 4924 (s 4 + 100 * v) 1) j = 0 := fun j j0 j1 => by
    show aup cm9 1 4924 (s 4 + 100 * v) 1 (4984 + 198 * s 0 + 6 + j) = 0
    rw [aup_n (by omega), az _ (by omega) (by omega) (by omega) (by omega) (by omega), show 4984 + 198 * s 0 + 6 + j = 4920 + (64 + 198 * s 0 + 6 + j) by omega, hS.1 _ (by omega) (by omega)]
    exact hy.2.2.2.2 _ (by omega) (by omega)
  have hNm : ((nF m : Nat) : Int) = 16 * m := by unfold nF; omega
  refine gm_7 rfl dX7_aHive_173 dX7_aHive_174 rfl ?_
  refine aw_sipush dX7_aHive_177 (by decide) ?_
  refine aw_dup2 dX7_aHive_180 rfl rfl ?_
  refine aw_iaload dX7_aHive_181 m_a1 (by omega) (by omega) ?_
  rw [az _ (by omega) (by omega) (by omega) (by omega) (by omega), e4]
  refine aw_bipush dX7_aHive_182 (by decide) ?_
  refine gm_7 rfl dX7_aHive_184 dX7_aHive_185 rfl ?_
  refine aw_sipush dX7_aHive_188 (by decide) ?_
  refine aw_iaload dX7_aHive_191 m_a1 (by omega) (by omega) ?_
  rw [a6]
  refine aw_imulr dX7_aHive_192 (by omega) ?_
  refine aw_iaddr dX7_aHive_193 (by omega) ?_
  refine aw_iastore dX7_aHive_194 m_a1 (by omega) (by omega) ?_
  refine aw_aload_n dX7_aHive_195 rfl ?_
  refine aw_iload_n dX7_aHive_196 rfl ?_
  refine aw_bipush dX7_aHive_197 (by decide) ?_
  refine gm_7 rfl dX7_aHive_199 dX7_aHive_200 rfl ?_
  refine aw_sipush dX7_aHive_203 (by decide) ?_
  refine aw_iaload dX7_aHive_206 m_a1 (by omega) (by omega) ?_
  rw [aup_n (by decide), a6]
  refine aw_imulr dX7_aHive_207 (by omega) ?_
  refine c_X7_188 rfl dX7_aHive_208 m_ob (Nat.le_of_ble_eq_true rfl) (by omega) (C_m_stores (n := m) hF9 (by rw [aup_n (by omega)]; exact a0) hm (by omega) (by omega) (fun j j0 j1 => by rw [hz j j0 (by omega)]; decide) (fun ct3 c11 c12 c13 => ?_))
  have u0 : ∀ i, (i < 4984 + 198 * s 0 + 6 ∨ 4984 + 198 * s 0 + 6 + 16 * m ≤ i) → ct3 1 i = aup cm9 1 4924 (s 4 + 100 * v) 1 i := fun i hi => by
    rw [c12]
    show (stor m (nF m) (sh (4984 + 198 * s 0) (aup cm9 1 4924 (s 4 + 100 * v) 1)) (100 * v)).1 (i - (4984 + 198 * s 0 + 6)) = _
    rw [stor_out (by omega) _ (by omega)]
    show aup cm9 1 4924 (s 4 + 100 * v) 1 (4984 + 198 * s 0 + 6 + (i - (4984 + 198 * s 0 + 6))) = _
    rw [show 4984 + 198 * s 0 + 6 + (i - (4984 + 198 * s 0 + 6)) = i by omega]
  have u1 : ∀ j, 0 ≤ j → j < 192 → ct3 1 (4984 + 198 * s 0 + 6 + j) = (stor m (nF m) (fun _ => 0) (100 * v)).1 j := fun j j0 j1 => by
    rw [c12]
    show (stor m (nF m) (sh (4984 + 198 * s 0) (aup cm9 1 4924 (s 4 + 100 * v) 1)) (100 * v)).1 (4984 + 198 * s 0 + 6 + j - (4984 + 198 * s 0 + 6)) = _
    rw [show 4984 + 198 * s 0 + 6 + j - (4984 + 198 * s 0 + 6) = j by omega]
    by_cases z : j < 16 * m
    · exact (stor_ext (k := nF m) (by omega) (fun i i0 i1 => hz i i0 (by omega))).1 j j0 z
    · rw [stor_out (by omega) _ (by omega), stor_out (by omega) _ (by omega)]
      exact hz j j0 j1
  have fS : MF (aup cm9 1 4924 (s 4 + 100 * v)) ct3 := ⟨fun i hi => c13.2 i (by omega), fun b9 hb9 => c13.1 b9 (by omega) (by omega) (by omega), fun i hi => u0 i (Or.inl (by omega)), fun i hi => by rw [c13.1 2 (by decide) (by decide) (by decide)], fun _ => c11.ok⟩
  refine aK_i ?_
  refine aw_pop dX7_aHive_211 rfl ?_
  refine gm_7 rfl dX7_aHive_212 dX7_aHive_213 rfl ?_
  refine aw_sipush dX7_aHive_216 (by decide) ?_
  refine aw_dup2 dX7_aHive_219 rfl rfl ?_
  refine aw_iaload dX7_aHive_220 m_a1 (by omega) (by omega) ?_
  rw [u0 _ (Or.inl (by omega)), aup_n (by omega), az _ (by omega) (by omega) (by omega) (by omega) (by omega), e0]
  refine aw_iconst dX7_aHive_221 (by decide) ?_
  refine aw_iaddr dX7_aHive_222 (by omega) ?_
  refine aw_iastore dX7_aHive_223 m_a1 (by omega) (by omega) ?_
  refine aw_iconst dX7_aHive_224 (by decide) ?_
  refine aw_zreturn dX7_aHive_225 rfl (Or.inr rfl) ?_
  refine hQ _ (H9.fr (fun i hi => by rw [aup_rn (by decide), c13.2 i (by omega), aup_rn (by decide)]) (by rw [aup_rn (by decide), c13.1 7 (by decide) (by decide) (by decide), aup_rn (by decide)])) (((f9.up1 (by decide)).trans fS).up1 (by decide)) (SM_up hS hne ⟨P0, PQ0⟩ (Or.inl ⟨rfl, by omega, if_pos rfl, addH_n (by decide) (by decide) (by omega), addH_n (by decide) (by decide) (by omega)⟩) (by rw [aup_rn (by decide), c13.1 2 (by decide) (by decide) (by decide), aup_rn (by decide)]; exact g2) (fun i i0 i1 => ?_))
  have hi := hS.1 i i0 i1
  unfold addH
  by_cases z0 : i = 0
  · subst z0; rw [if_pos rfl]; exact aup_s
  rw [if_neg z0, aup_n (by omega)]
  by_cases z4 : i = 4
  · subst z4; rw [if_pos rfl, u0 _ (Or.inl (by omega))]; exact aup_s
  rw [if_neg z4]
  by_cases zh : i = 64 + 198 * s 0
  · rw [if_pos zh, u0 _ (Or.inl (by omega)), aup_n (by omega), show 4920 + i = 4984 + 198 * s 0 by omega]; exact a0
  rw [if_neg zh]
  by_cases zb : i = 65 + 198 * s 0
  · rw [if_pos zb, u0 _ (Or.inl (by omega)), aup_n (by omega), show 4920 + i = 4984 + 198 * s 0 + 1 by omega]; exact a1
  rw [if_neg zb]
  by_cases zq : i = 67 + 198 * s 0
  · rw [if_pos zq, u0 _ (Or.inl (by omega)), aup_n (by omega), show 4920 + i = 4984 + 198 * s 0 + 3 by omega]; exact a3
  rw [if_neg zq]
  by_cases zf : 70 + 198 * s 0 ≤ i ∧ i < 70 + 198 * s 0 + 192
  · rw [if_pos zf, show 4920 + i = 4984 + 198 * s 0 + 6 + (i - (70 + 198 * s 0)) by omega]; exact u1 _ (by omega) (by omega)
  rw [if_neg zf, u0 _ (by omega), aup_n (by omega), az _ (by omega) (by omega) (by omega) (by omega) (by omega)]
  exact hi
theorem C_m_aHive {cm : Int → Int → Int} {tp : Int → Int} {n p : Int} {s N : Int → Int} {Q : aPost} (H : RM cm tp n p) (hFk : Fok cm) (hK : tK tp n p = 1) (hS : SM cm s N) (hy : YI s) (hF : ∀ (k pl : Int) (cm1 : Int → Int → Int), hiveP tp n p s N = .inl (k, pl) → MB cm cm1 k pl → Q (.inl (some (vI 0))) (gM cm1)) (hQ : ∀ (q : Int) (s1 N1 : Int → Int) (cm1 : Int → Int → Int), hiveP tp n p s N = .inr (q, s1, N1) → RM cm1 tp n q → MF cm cm1 → SM cm1 s1 N1 → YI s1 → Q (.inl (some (vI 1))) (gM cm1)) : AMet md_X7_aHive 8 0 0 [vR 0] (gM cm) Q := by
  refine AMet.go (L := [some (vR 0), none]) mok_X7_aHive (Nat.le_of_ble_eq_true rfl) rfl ?_
  have P0 := hy.1.1
  have PQ1 := hy.1.2.2.2.1
  have PQ0 := PQ1.1
  have e0 : cm 1 4920 = s 0 := by rw [show (4920 : Int) = 4920 + 0 by decide]; exact hS.1 0 (by decide) (by decide)
  refine aw_sipush dX7_aHive_0 (by decide) ?_
  refine aw_sipush dX7_aHive_3 (by decide) ?_
  refine gm_7 rfl dX7_aHive_6 dX7_aHive_7 rfl ?_
  refine aw_sipush dX7_aHive_10 (by decide) ?_
  refine aw_iaload dX7_aHive_13 m_a1 (by omega) (by omega) ?_
  rw [e0]
  refine aw_imulr dX7_aHive_14 (by omega) ?_
  refine aw_iaddr dX7_aHive_15 (by omega) ?_
  refine aw_istore1 dX7_aHive_16 (by decide) rfl ?_
  refine aw_aload_n dX7_aHive_17 rfl ?_
  refine aw_iconst dX7_aHive_18 (by decide) ?_
  refine aw_iconst dX7_aHive_19 (by decide) ?_
  refine aw_iconst dX7_aHive_20 (by decide) ?_
  refine c_X7_174 rfl dX7_aHive_21 m_ob (Nat.le_of_ble_eq_true rfl) (by omega) (C_m_newOne (j := 0) (most := 4) (srt := 0) H hK hS hy (by omega) (fun k pl cm1 e9 hb => ?_) (fun x q m1 cm1 h8 e9 hne H1 f1 c1 c2 => ?_))
  · have Z := hF k pl cm1 (by
      unfold hiveP
      rcases e9 with ⟨a, b, c⟩ | ⟨a, b⟩
      · rw [if_pos a, b, c]
      · rw [if_neg a]; exact bnd_l b) hb
    refine aK_i ?_
    refine aw_ifne (tgt := 29) dX7_aHive_24 (by decide) (fun h => absurd h (by decide)) (fun _ => ?_)
    refine aw_iconst dX7_aHive_27 (by decide) ?_
    refine aw_zreturn dX7_aHive_28 rfl (Or.inl rfl) ?_
    exact Z
  · refine aK_i ?_
    refine aw_ifne (tgt := 29) dX7_aHive_24 (by decide) (fun _ => ?_) (fun h => absurd h (by decide))
    refine gm_7 rfl dX7_aHive_29 dX7_aHive_30 rfl ?_
    refine aw_iload_n dX7_aHive_33 rfl ?_
    refine aw_iconst dX7_aHive_34 (by decide) ?_
    refine aw_iaddr dX7_aHive_35 (by omega) ?_
    refine aw_iconst dX7_aHive_36 (by decide) ?_
    refine aw_iastore dX7_aHive_37 m_a1 (by omega) (by omega) ?_
    rw [Int.zero_add] at c2
    have HA : RM (aup cm1 1 (4984 + 198 * s 0 + 3) (-1)) tp n q := H1.up (by decide) (by decide)
    have fA : MF cm (aup cm1 1 (4984 + 198 * s 0 + 3) (-1)) := f1.up1 (by omega)
    have dA : aup cm1 1 (4984 + 198 * s 0 + 3) (-1) 1 = upA (cm 1) (4984 + 198 * s 0 + 3) (-1) := by rw [aup_r, c1]
    refine aw_aload_n dX7_aHive_38 rfl ?_
    refine aw_ldcS (k9 := 23) dX7_aHive_39 rfl rfl (by decide) ?_
    refine aw_iconst dX7_aHive_41 (by decide) ?_
    refine c_X7_178 rfl dX7_aHive_42 m_ob (Nat.le_of_ble_eq_true rfl) (by omega) (C_m_wantWord (w := 3) HA (fun cm8 hw hb => ?_) (fun cm2 hw2 H2 f2 => ?_))
    · have Z := hF _ _ cm8 (by unfold hiveP; rw [if_neg h8, bnd_r e9]; exact bnd_l (if_pos hw)) (fA.b (show MB _ _ (wr tp n _) (tF tp n _) from hb))
      refine aK_i ?_
      refine aw_ifeq (tgt := 82) dX7_aHive_45 (by decide) (fun _ => ?_) (fun h => absurd h (by decide))
      refine aw_iconst dX7_aHive_82 (by decide) ?_
      refine aw_zreturn dX7_aHive_83 rfl (Or.inl rfl) ?_
      exact Z
    · refine aK_i ?_
      refine aw_ifeq (tgt := 82) dX7_aHive_45 (by decide) (fun h => absurd h (by decide)) (fun _ => ?_)
      refine aw_aload_n dX7_aHive_48 rfl ?_
      refine aw_sipush dX7_aHive_49 (by decide) ?_
      refine aw_iconst dX7_aHive_52 (by decide) ?_
      refine aw_iconst dX7_aHive_53 (by decide) ?_
      refine c_X7_182 rfl dX7_aHive_54 m_ob (Nat.le_of_ble_eq_true rfl) (by omega) (C_m_number (t := 6145) H2 (by omega) (fun k pl cm8 z1 hb => ?_) (fun v1 q3 cm3 z1 H3 f3 f3a f3b _ _ => ?_))
      · have Z := hF _ _ cm8 (by unfold hiveP; rw [if_neg h8, bnd_r e9]; exact bnd_l (show wnumP tp n q 3 1 3 = _ from (if_neg (by omega)).trans z1)) ((fA.trans f2.mf).b hb)
        refine aK_i ?_
        refine aw_ifeq (tgt := 82) dX7_aHive_57 (by decide) (fun _ => ?_) (fun h => absurd h (by decide))
        refine aw_iconst dX7_aHive_82 (by decide) ?_
        refine aw_zreturn dX7_aHive_83 rfl (Or.inl rfl) ?_
        exact Z
      · have w1 : wnumP tp n q 3 1 3 = .inr (v1, q3) := (if_neg (by omega)).trans z1
        have w1b := (wnumP_p HA.2.1.2 w1).2
        have fC : MF cm cm3 := (fA.trans f2.mf).trans f3
        refine aK_i ?_
        refine aw_ifeq (tgt := 82) dX7_aHive_57 (by decide) (fun h => absurd h (by decide)) (fun _ => ?_)
        refine aw_aload_n dX7_aHive_60 rfl ?_
        refine aw_ldcS (k9 := 23) dX7_aHive_61 rfl rfl (by decide) ?_
        refine aw_iconst dX7_aHive_63 (by decide) ?_
        refine c_X7_178 rfl dX7_aHive_64 m_ob (Nat.le_of_ble_eq_true rfl) (by omega) (C_m_wantWord (w := 4) H3 (fun cm8 hw hb => ?_) (fun cm4 hw4 H4 f4 => ?_))
        · have Z := hF _ _ cm8 (by unfold hiveP; rw [if_neg h8, bnd_r e9]; rw [bnd_r w1]; exact bnd_l (if_pos hw)) (fC.b (show MB _ _ (wr tp n _) (tF tp n _) from hb))
          refine aK_i ?_
          refine aw_ifeq (tgt := 82) dX7_aHive_67 (by decide) (fun _ => ?_) (fun h => absurd h (by decide))
          refine aw_iconst dX7_aHive_82 (by decide) ?_
          refine aw_zreturn dX7_aHive_83 rfl (Or.inl rfl) ?_
          exact Z
        · refine aK_i ?_
          refine aw_ifeq (tgt := 82) dX7_aHive_67 (by decide) (fun h => absurd h (by decide)) (fun _ => ?_)
          refine aw_aload_n dX7_aHive_70 rfl ?_
          refine aw_sipush dX7_aHive_71 (by decide) ?_
          refine aw_iconst dX7_aHive_74 (by decide) ?_
          refine aw_iconst dX7_aHive_75 (by decide) ?_
          refine c_X7_182 rfl dX7_aHive_76 m_ob (Nat.le_of_ble_eq_true rfl) (by omega) (C_m_number (t := 6146) H4 (by omega) (fun k pl cm8 z2 hb => ?_) (fun v2 q5 cm5 z2 H5 f5 f5a f5b _ _ => ?_))
          · have Z := hF _ _ cm8 (by unfold hiveP; rw [if_neg h8, bnd_r e9]; rw [bnd_r w1]; exact bnd_l (show wnumP tp n q3 4 1 4 = _ from (if_neg (by omega)).trans z2)) ((fC.trans f4.mf).b hb)
            refine aK_i ?_
            refine aw_ifne (tgt := 84) dX7_aHive_79 (by decide) (fun h => absurd h (by decide)) (fun _ => ?_)
            refine aw_iconst dX7_aHive_82 (by decide) ?_
            refine aw_zreturn dX7_aHive_83 rfl (Or.inl rfl) ?_
            exact Z
          · have w2 : wnumP tp n q3 4 1 4 = .inr (v2, q5) := (if_neg (by omega)).trans z2
            have w2b := (wnumP_p H3.2.1.2 w2).2
            have fE : MF cm cm5 := (fC.trans f4.mf).trans f5
            have hm : 1 ≤ v1 * v2 ∧ v1 * v2 ≤ 12 := by
              rcases (by omega : v1 = 1 ∨ v1 = 2 ∨ v1 = 3) with z | z | z <;> (rw [z]; omega)
            have d5 : cm5 1 = upA (upA (upA (cm 1) (4984 + 198 * s 0 + 3) (-1)) 6145 v1) 6146 v2 := by rw [f5a, f4.2 1 (by decide), f3a, f2.2 1 (by decide), dA]
            have d52 : cm5 2 = upA (cm 2) (80 + s 0) m1 := by rw [f5b, f4.2 2 (by decide), f3b, f2.2 2 (by decide), aup_rn (by decide), c2]
            refine aK_i ?_
            refine aw_ifne (tgt := 84) dX7_aHive_79 (by decide) (fun _ => ?_) (fun h => absurd h (by decide))
            refine gm_7 rfl dX7_aHive_84 dX7_aHive_85 rfl ?_
            refine aw_iload_n dX7_aHive_88 rfl ?_
            refine gm_7 rfl dX7_aHive_89 dX7_aHive_90 rfl ?_
            refine aw_sipush dX7_aHive_93 (by decide) ?_
            refine aw_iaload dX7_aHive_96 m_a1 (by omega) (by omega) ?_
            rw [d5, upA_n (by decide), upA_s]
            refine gm_7 rfl dX7_aHive_97 dX7_aHive_98 rfl ?_
            refine aw_sipush dX7_aHive_101 (by decide) ?_
            refine aw_iaload dX7_aHive_104 m_a1 (by omega) (by omega) ?_
            rw [d5, upA_s]
            refine aw_imulr dX7_aHive_105 (by omega) ?_
            refine aw_iastore dX7_aHive_106 m_a1 (by omega) (by omega) ?_
            have HB : RM (aup cm5 1 (4984 + 198 * s 0) (v1 * v2)) tp n q5 := H5.up (by decide) (by decide)
            have fB : MF cm (aup cm5 1 (4984 + 198 * s 0) (v1 * v2)) := fE.up1 (by omega)
            refine aw_aload_n dX7_aHive_107 rfl ?_
            refine aw_ldcS (k9 := 23) dX7_aHive_108 rfl rfl (by decide) ?_
            refine aw_iconst dX7_aHive_110 (by decide) ?_
            refine c_X7_178 rfl dX7_aHive_111 m_ob (Nat.le_of_ble_eq_true rfl) (by omega) (C_m_wantWord (w := 5) HB (fun cm8 hw hb => ?_) (fun cm6 hw6 H6 f6 => ?_))
            · have Z := hF _ _ cm8 (by unfold hiveP; rw [if_neg h8, bnd_r e9]; rw [bnd_r w1, bnd_r w2]; exact bnd_l (if_pos hw)) (fB.b (show MB _ _ (wr tp n _) (tF tp n _) from hb))
              refine aK_i ?_
              refine aw_ifeq (tgt := 131) dX7_aHive_114 (by decide) (fun _ => ?_) (fun h => absurd h (by decide))
              refine aw_iconst dX7_aHive_131 (by decide) ?_
              refine aw_zreturn dX7_aHive_132 rfl (Or.inl rfl) ?_
              exact Z
            · refine aK_i ?_
              refine aw_ifeq (tgt := 131) dX7_aHive_114 (by decide) (fun h => absurd h (by decide)) (fun _ => ?_)
              refine aw_aload_n dX7_aHive_117 rfl ?_
              refine aw_iload_n dX7_aHive_118 rfl ?_
              refine aw_iconst dX7_aHive_119 (by decide) ?_
              refine aw_iaddr dX7_aHive_120 (by omega) ?_
              refine aw_iconst dX7_aHive_121 (by decide) ?_
              refine aw_sipush dX7_aHive_122 (by decide) ?_
              refine c_X7_182 rfl dX7_aHive_125 m_ob (Nat.le_of_ble_eq_true rfl) (by omega) (C_m_number (t := 4984 + 198 * s 0 + 1) H6 (by omega) (fun k pl cm8 z3 hb => ?_) (fun v3 q7 cm7 z3 H7 f7 f7a f7b _ _ => ?_))
              · have Z := hF _ _ cm8 (by unfold hiveP; rw [if_neg h8, bnd_r e9]; rw [bnd_r w1, bnd_r w2]; exact bnd_l (show wnumP tp n q5 5 0 9999 = _ from (if_neg (by omega)).trans z3)) ((fB.trans f6.mf).b hb)
                refine aK_i ?_
                refine aw_ifne (tgt := 133) dX7_aHive_128 (by decide) (fun h => absurd h (by decide)) (fun _ => ?_)
                refine aw_iconst dX7_aHive_131 (by decide) ?_
                refine aw_zreturn dX7_aHive_132 rfl (Or.inl rfl) ?_
                exact Z
              · have w3 : wnumP tp n q5 5 0 9999 = .inr (v3, q7) := (if_neg (by omega)).trans z3
                have w3b := (wnumP_p H5.2.1.2 w3).2
                have fG : MF cm cm7 := (fB.trans f6.mf).trans f7
                have d7 : cm7 1 = upA (upA (upA (upA (upA (cm 1) (4984 + 198 * s 0 + 3) (-1)) 6145 v1) 6146 v2) (4984 + 198 * s 0) (v1 * v2)) (4984 + 198 * s 0 + 1) v3 := by rw [f7a, f6.2 1 (by decide), aup_r, d5]
                have d72 : cm7 2 = upA (cm 2) (80 + s 0) m1 := by rw [f7b, f6.2 2 (by decide), aup_rn (by decide), d52]
                refine aK_i ?_
                refine aw_ifne (tgt := 133) dX7_aHive_128 (by decide) (fun _ => ?_) (fun h => absurd h (by decide))
                refine gm_7 rfl dX7_aHive_133 dX7_aHive_134 rfl ?_
                refine aw_sipush dX7_aHive_137 (by decide) ?_
                refine aw_iconst dX7_aHive_140 (by decide) ?_
                refine aw_iastore dX7_aHive_141 m_a1 (by omega) (by omega) ?_
                have HC : RM (aup cm7 1 6145 0) tp n q7 := H7.up (by decide) (by decide)
                have fI : MF cm (aup cm7 1 6145 0) := fG.up1 (by decide)
                have eP : hiveP tp n p s N = bnd (if tW tp n q7 = 6 then numP tp n (tE tp n q7) 0 (16 * (v1 * v2)) else .inr (0, q7)) fun h => .inr (h.2, addH s (v1 * v2) v3 h.1, upA N (s 0) x) := by unfold hiveP; rw [if_neg h8, bnd_r e9, bnd_r w1, bnd_r w2, bnd_r w3]
                refine aw_aload_n dX7_aHive_142 rfl ?_
                refine aw_bipush dX7_aHive_143 (by decide) ?_
                refine c_X7_185 rfl dX7_aHive_145 m_ob (Nat.le_of_ble_eq_true rfl) (by omega) (C_m_isThere HC (fun hw => ?_) (fun cm8 hw H8 f8 => ?_))
                · rw [if_neg hw] at eP
                  refine aK_i ?_
                  refine aw_ifeq (tgt := 173) dX7_aHive_148 (by decide) (fun _ => ?_) (fun h => absurd h (by decide))
                  first
                    | exact L_m_ah173 (by decide) hFk hS hy h8 hne HC fI hm ⟨Int.le_refl 0, by omega⟩ (by rw [aup_n (by omega), d7, upA_n (by omega), upA_s]) (by rw [aup_n (by omega), d7, upA_s]) (by rw [aup_n (by omega), d7, upA_n (by omega), upA_n (by omega), upA_n (by omega), upA_n (by omega), upA_s]) aup_s (fun i i0 i1 i2 i3 i4 => by rw [aup_n (by omega), d7, upA_n (by omega), upA_n (by omega), upA_n (by omega), upA_n (by omega), upA_n (by omega)]) (by rw [aup_rn (by decide), d72]) (fun cm9 k1 k2 k3 => hQ _ _ _ cm9 eP k1 k2 k3 (YI_addH hy (by omega) hm (by omega) ⟨Int.le_refl 0, by omega⟩))
                    | (rw [bnd_r z4] at eP
                       exact L_m_ah173 (by decide) hFk hS hy h8 hne H9 ((fI.trans f8.mf).trans f9) hm w4b (by rw [f9a, upA_n (by omega), d8, upA_n (by omega), d7, upA_n (by omega), upA_s]) (by rw [f9a, upA_n (by omega), d8, upA_n (by omega), d7, upA_s]) (by rw [f9a, upA_n (by omega), d8, upA_n (by omega), d7, upA_n (by omega), upA_n (by omega), upA_n (by omega), upA_n (by omega), upA_s]) (by rw [f9a, upA_s]) (fun i i0 i1 i2 i3 i4 => by rw [f9a, upA_n (by omega), d8, upA_n (by omega), d7, upA_n (by omega), upA_n (by omega), upA_n (by omega), upA_n (by omega), upA_n (by omega)]) (by rw [f9b, f8.2 2 (by decide), aup_rn (by decide), d72]) (fun cm9 k1 k2 k3 => hQ _ _ _ cm9 eP k1 k2 k3 (YI_addH hy (by omega) hm (by omega) w4b)))
                · rw [if_pos hw] at eP
                  have d8 : cm8 1 = upA (cm7 1) 6145 0 := by rw [f8.2 1 (by decide), aup_r]
                  refine aK_i ?_
                  refine aw_ifeq (tgt := 173) dX7_aHive_148 (by decide) (fun h => absurd h (by decide)) (fun _ => ?_)
                  refine aw_aload_n dX7_aHive_151 rfl ?_
                  refine aw_sipush dX7_aHive_152 (by decide) ?_
                  refine aw_iconst dX7_aHive_155 (by decide) ?_
                  refine aw_bipush dX7_aHive_156 (by decide) ?_
                  refine gm_7 rfl dX7_aHive_158 dX7_aHive_159 rfl ?_
                  refine aw_iload_n dX7_aHive_162 rfl ?_
                  refine aw_iaload dX7_aHive_163 m_a1 (by omega) (by omega) ?_
                  rw [d8, upA_n (by omega), d7, upA_n (by omega), upA_s]
                  refine aw_imulr dX7_aHive_164 (by omega) ?_
                  refine c_X7_182 rfl dX7_aHive_165 m_ob (Nat.le_of_ble_eq_true rfl) (by omega) (C_m_number (t := 6145) H8 (by omega) (fun k pl cm9 z4 hb => ?_) (fun v4 q9 cm9 z4 H9 f9 f9a f9b _ _ => ?_))
                  · have Z := hF _ _ cm9 (by rw [eP]; exact bnd_l z4) ((fI.trans f8.mf).b hb)
                    refine aK_i ?_
                    refine aw_ifne (tgt := 173) dX7_aHive_168 (by decide) (fun h => absurd h (by decide)) (fun _ => ?_)
                    refine aw_iconst dX7_aHive_171 (by decide) ?_
                    refine aw_zreturn dX7_aHive_172 rfl (Or.inl rfl) ?_
                    exact Z
                  · have w4b := (numP_p (tE_bd HC.2.1.2).2 z4).2
                    refine aK_i ?_
                    refine aw_ifne (tgt := 173) dX7_aHive_168 (by decide) (fun _ => ?_) (fun h => absurd h (by decide))
                    first
                      | exact L_m_ah173 (by decide) hFk hS hy h8 hne HC fI hm ⟨Int.le_refl 0, by omega⟩ (by rw [aup_n (by omega), d7, upA_n (by omega), upA_s]) (by rw [aup_n (by omega), d7, upA_s]) (by rw [aup_n (by omega), d7, upA_n (by omega), upA_n (by omega), upA_n (by omega), upA_n (by omega), upA_s]) aup_s (fun i i0 i1 i2 i3 i4 => by rw [aup_n (by omega), d7, upA_n (by omega), upA_n (by omega), upA_n (by omega), upA_n (by omega), upA_n (by omega)]) (by rw [aup_rn (by decide), d72]) (fun cm9 k1 k2 k3 => hQ _ _ _ cm9 eP k1 k2 k3 (YI_addH hy (by omega) hm (by omega) ⟨Int.le_refl 0, by omega⟩))
                      | (rw [bnd_r z4] at eP
                         exact L_m_ah173 (by decide) hFk hS hy h8 hne H9 ((fI.trans f8.mf).trans f9) hm w4b (by rw [f9a, upA_n (by omega), d8, upA_n (by omega), d7, upA_n (by omega), upA_s]) (by rw [f9a, upA_n (by omega), d8, upA_n (by omega), d7, upA_s]) (by rw [f9a, upA_n (by omega), d8, upA_n (by omega), d7, upA_n (by omega), upA_n (by omega), upA_n (by omega), upA_n (by omega), upA_s]) (by rw [f9a, upA_s]) (fun i i0 i1 i2 i3 i4 => by rw [f9a, upA_n (by omega), d8, upA_n (by omega), d7, upA_n (by omega), upA_n (by omega), upA_n (by omega), upA_n (by omega), upA_n (by omega)]) (by rw [f9b, f8.2 2 (by decide), aup_rn (by decide), d72]) (fun cm9 k1 k2 k3 => hQ _ _ _ cm9 eP k1 k2 k3 (YI_addH hy (by omega) hm (by omega) w4b)))
