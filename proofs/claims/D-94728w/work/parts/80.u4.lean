set_option maxRecDepth 100000
/-! BeeYardModel reads: new and old names, drones -/
def SM (cm : Int → Int → Int) (s N : Int → Int) : Prop := (∀ i, 0 ≤ i → i < 860 → cm 1 (4920 + i) = s i) ∧ NRl N (fun i => cm 2 (80 + i)) s
theorem upA_o2 {c : Int → Int} {i v w : Int} : upA (upA c i v) i w = upA c i w := by
  funext j
  by_cases h : j = i
  · subst h; rw [upA_s, upA_s]
  · rw [upA_n h, upA_n h, upA_n h]
theorem NRl_up {N M s s' : Int → Int} {x m e : Int} (h : NRl N (fun i => M (80 + i)) s) (hne : NE x m) (hb : (0 ≤ s 0 ∧ s 0 ≤ 4) ∧ (0 ≤ s 1 ∧ s 1 ≤ 8) ∧ 0 ≤ s 2 ∧ s 2 ≤ 8)
    (he : (e = s 0 ∧ s 0 < 4 ∧ s' 0 = s 0 + 1 ∧ s' 1 = s 1 ∧ s' 2 = s 2) ∨ (e = 4 + s 2 ∧ s 2 < 8 ∧ s' 0 = s 0 ∧ s' 1 = s 1 ∧ s' 2 = s 2 + 1) ∨ (e = 12 + s 1 ∧ s 1 < 8 ∧ s' 0 = s 0 ∧ s' 1 = s 1 + 1 ∧ s' 2 = s 2)) : NRl (upA N e x) (fun i => upA M (80 + e) m (80 + i)) s' := by
  have key : ∀ i, (i ≠ e → NE (N i) (M (80 + i))) → NE (upA N e x i) (upA M (80 + e) m (80 + i)) := fun i hi => by
    by_cases z : i = e
    · subst z; rw [upA_s, upA_s]; exact hne
    · rw [upA_n z, upA_n (by omega)]; exact hi z
  exact ⟨fun k k0 k1 => key k fun z => h.1 k k0 (by omega), fun k k0 k1 => key _ fun z => h.2.1 k k0 (by omega), fun k k0 k1 => key _ fun z => h.2.2 k k0 (by omega)⟩
theorem SM_up {cm cm' : Int → Int → Int} {s s' N : Int → Int} {x m e : Int} (h : SM cm s N) (hne : NE x m) (hb : (0 ≤ s 0 ∧ s 0 ≤ 4) ∧ (0 ≤ s 1 ∧ s 1 ≤ 8) ∧ 0 ≤ s 2 ∧ s 2 ≤ 8)
    (he : (e = s 0 ∧ s 0 < 4 ∧ s' 0 = s 0 + 1 ∧ s' 1 = s 1 ∧ s' 2 = s 2) ∨ (e = 4 + s 2 ∧ s 2 < 8 ∧ s' 0 = s 0 ∧ s' 1 = s 1 ∧ s' 2 = s 2 + 1) ∨ (e = 12 + s 1 ∧ s 1 < 8 ∧ s' 0 = s 0 ∧ s' 1 = s 1 + 1 ∧ s' 2 = s 2))
    (g2 : cm' 2 = upA (cm 2) (80 + e) m) (g1 : ∀ i, 0 ≤ i → i < 860 → cm' 1 (4920 + i) = s' i) : SM cm' s' (upA N e x) := ⟨g1, by
  have k := NRl_up h.2 hne hb he
  rw [← g2] at k
  exact k⟩
theorem C_m_newOne {cm : Int → Int → Int} {tp : Int → Int} {n p : Int} {s N : Int → Int} {j most srt : Int} {Q : aPost} (H : RM cm tp n p) (hK : tK tp n p = 1) (hS : SM cm s N) (hy : YI s) (hj : (j = 0 ∧ most = 4 ∧ srt = 0) ∨ (j = 1 ∧ most = 8 ∧ srt = 12) ∨ (j = 2 ∧ most = 8 ∧ srt = 4)) (hF : ∀ (k pl : Int) (cm1 : Int → Int → Int), (s j = most ∧ k = 6 ∧ pl = tF tp n p) ∨ (s j ≠ most ∧ freshP tp n (tE tp n p) s N = .inl (k, pl)) → MB cm cm1 k pl → Q (.inl (some (vI 0))) (gM cm1)) (hQ : ∀ (x q m : Int) (cm1 : Int → Int → Int), s j ≠ most → freshP tp n (tE tp n p) s N = .inr (x, q) → NE x m → RM cm1 tp n q → MF cm cm1 → cm1 1 = cm 1 → cm1 2 = upA (cm 2) (80 + (srt + s j)) m → Q (.inl (some (vI 1))) (gM cm1)) : AMet md_X7_newOne 7 0 0 [vR 0, vI j, vI most, vI srt] (gM cm) Q := by
  refine AMet.go (L := [some (vR 0), some (vI j), some (vI most), some (vI srt)]) mok_X7_newOne (Nat.le_of_ble_eq_true rfl) rfl ?_
  have P0 := hy.1.1
  have PQ1 := hy.1.2.2.2.1
  have PQ0 := PQ1.1
  have e0 : cm 1 4920 = s 0 := by rw [show (4920 : Int) = 4920 + 0 by decide]; exact hS.1 0 (by decide) (by decide)
  have e1 : cm 1 4921 = s 1 := by rw [show (4921 : Int) = 4920 + 1 by decide]; exact hS.1 1 (by decide) (by decide)
  have e2 : cm 1 4922 = s 2 := by rw [show (4922 : Int) = 4920 + 2 by decide]; exact hS.1 2 (by decide) (by decide)
  have ej : cm 1 (4920 + j) = s j := hS.1 j (by omega) (by omega)
  have bj : 0 ≤ s j ∧ s j ≤ most := by rcases hj with z | z | z <;> (rw [z.1]; omega)
  refine gm_7 rfl dX7_newOne_0 dX7_newOne_1 rfl ?_
  refine aw_sipush dX7_newOne_4 (by decide) ?_
  refine aw_iload_n dX7_newOne_7 rfl ?_
  refine aw_iaddr dX7_newOne_8 (by omega) ?_
  refine aw_iaload dX7_newOne_9 m_a1 (by omega) (by omega) ?_
  rw [ej]
  refine aw_iload_n dX7_newOne_10 rfl ?_
  refine aw_icmpne (tgt := 21) dX7_newOne_11 (by decide) (fun h11 => ?_) (fun h11 => ?_)
  · refine aw_aload_n dX7_newOne_21 rfl ?_
    refine c_X7_148 rfl dX7_newOne_22 m_ob (Nat.le_of_ble_eq_true rfl) (by omega) (C_m_ahead H.1 H.goes.1 H.goes.2 (fun cm1 H1 f1 => ?_))
    have c11 : cm1 1 = cm 1 := f1.2 1 (by decide)
    have c12 : cm1 2 = cm 2 := f1.2 2 (by decide)
    refine aK_v ?_
    refine aw_aload_n dX7_newOne_25 rfl ?_
    refine aw_ldcS (k9 := 23) dX7_newOne_26 rfl rfl (by decide) ?_
    refine c_X7_167 rfl dX7_newOne_28 m_ob (Nat.le_of_ble_eq_true rfl) (by omega) (C_m_isName H1 (fun hi => ?_) (fun hi => ?_))
    · have hne := nmNE H1.2.1.2 hi
      have hk9 := hi.1
      have nm9 : nameP tp n (tE tp n p) = .inr (nmX tp n (tE tp n p)) := if_pos hi
      have q0 : fnd N 0 (s 0) (nmX tp n (tE tp n p)) = fnd (cm1 2) 80 (s 0) (nmM tp n (tE tp n p)) := fnd_eq hne fun j j0 j1 => by rw [c12, Int.zero_add]; exact hS.2.1 j j0 j1
      have q2 : fnd N 4 (s 2) (nmX tp n (tE tp n p)) = fnd (cm1 2) 84 (s 2) (nmM tp n (tE tp n p)) := fnd_eq hne fun j j0 j1 => by rw [c12, show (84 : Int) + j = 80 + (4 + j) by omega]; exact hS.2.2.1 j j0 j1
      have q1 : fnd N 12 (s 1) (nmX tp n (tE tp n p)) = fnd (cm1 2) 92 (s 1) (nmM tp n (tE tp n p)) := fnd_eq hne fun j j0 j1 => by rw [c12, show (92 : Int) + j = 80 + (12 + j) by omega]; exact hS.2.2.2 j j0 j1
      refine aK_i ?_
      refine aw_ifne (tgt := 40) dX7_newOne_31 (by decide) (fun _ => ?_) (fun h => absurd h (by decide))
      refine aw_aload_n dX7_newOne_40 rfl ?_
      refine aw_bipush dX7_newOne_41 (by decide) ?_
      refine gm_7 rfl dX7_newOne_43 dX7_newOne_44 rfl ?_
      refine aw_sipush dX7_newOne_47 (by decide) ?_
      refine aw_iaload dX7_newOne_50 m_a1 (by omega) (by omega) ?_
      rw [c11, e0]
      refine c_X7_171 rfl dX7_newOne_51 m_ob (Nat.le_of_ble_eq_true rfl) (by omega) (C_m_findHere H1 hi (by omega) (by omega) ?_)
      refine aK_i ?_
      refine aw_iconst dX7_newOne_54 (by decide) ?_
      refine aw_icmpne (tgt := 94) dX7_newOne_55 (by decide) (fun h55 => ?_) (fun h55 => ?_)
      · refine aw_aload_n dX7_newOne_94 rfl ?_
        refine aw_iconst dX7_newOne_95 (by decide) ?_
        refine c_X7_154 rfl dX7_newOne_96 m_ob (Nat.le_of_ble_eq_true rfl) (by omega) (C_m_fails H1 (k := 3) (by decide) (fun cm2 hb => ?_))
        refine aK_i ?_
        refine aw_zreturn dX7_newOne_99 rfl (Or.inl rfl) ?_
        rw [if_neg (by omega)] at hb
        exact hF _ _ _ (Or.inr ⟨by omega, by unfold freshP; rw [bnd_r nm9]; exact if_pos (by omega)⟩) (f1.mf.b hb)
      · refine aw_aload_n dX7_newOne_58 rfl ?_
        refine aw_bipush dX7_newOne_59 (by decide) ?_
        refine gm_7 rfl dX7_newOne_61 dX7_newOne_62 rfl ?_
        refine aw_sipush dX7_newOne_65 (by decide) ?_
        refine aw_iaload dX7_newOne_68 m_a1 (by omega) (by omega) ?_
        rw [c11, e2]
        refine c_X7_171 rfl dX7_newOne_69 m_ob (Nat.le_of_ble_eq_true rfl) (by omega) (C_m_findHere H1 hi (by omega) (by omega) ?_)
        refine aK_i ?_
        refine aw_iconst dX7_newOne_72 (by decide) ?_
        refine aw_icmpne (tgt := 94) dX7_newOne_73 (by decide) (fun h73 => ?_) (fun h73 => ?_)
        · refine aw_aload_n dX7_newOne_94 rfl ?_
          refine aw_iconst dX7_newOne_95 (by decide) ?_
          refine c_X7_154 rfl dX7_newOne_96 m_ob (Nat.le_of_ble_eq_true rfl) (by omega) (C_m_fails H1 (k := 3) (by decide) (fun cm2 hb => ?_))
          refine aK_i ?_
          refine aw_zreturn dX7_newOne_99 rfl (Or.inl rfl) ?_
          rw [if_neg (by omega)] at hb
          exact hF _ _ _ (Or.inr ⟨by omega, by unfold freshP; rw [bnd_r nm9]; exact if_pos (by omega)⟩) (f1.mf.b hb)
        · refine aw_aload_n dX7_newOne_76 rfl ?_
          refine aw_bipush dX7_newOne_77 (by decide) ?_
          refine gm_7 rfl dX7_newOne_79 dX7_newOne_80 rfl ?_
          refine aw_sipush dX7_newOne_83 (by decide) ?_
          refine aw_iaload dX7_newOne_86 m_a1 (by omega) (by omega) ?_
          rw [c11, e1]
          refine c_X7_171 rfl dX7_newOne_87 m_ob (Nat.le_of_ble_eq_true rfl) (by omega) (C_m_findHere H1 hi (by omega) (by omega) ?_)
          refine aK_i ?_
          refine aw_iconst dX7_newOne_90 (by decide) ?_
          refine aw_icmpeq (tgt := 100) dX7_newOne_91 (by decide) (fun h91 => ?_) (fun h91 => ?_)
          · refine gm_13 rfl dX7_newOne_100 dX7_newOne_101 rfl ?_
            refine aw_bipush dX7_newOne_104 (by decide) ?_
            refine aw_iload_n dX7_newOne_106 rfl ?_
            refine aw_iaddr dX7_newOne_107 (by omega) ?_
            refine gm_7 rfl dX7_newOne_108 dX7_newOne_109 rfl ?_
            refine aw_sipush dX7_newOne_112 (by decide) ?_
            refine aw_iload_n dX7_newOne_115 rfl ?_
            refine aw_iaddr dX7_newOne_116 (by omega) ?_
            refine aw_iaload dX7_newOne_117 m_a1 (by omega) (by omega) ?_
            rw [c11, ej]
            refine aw_iaddr dX7_newOne_118 (by omega) ?_
            refine aw_aload_n dX7_newOne_119 rfl ?_
            refine c_X7_161 rfl dX7_newOne_120 m_ob (Nat.le_of_ble_eq_true rfl) (by omega) (C_m_nameHere H1 hi ?_)
            refine aK_i ?_
            refine aw_lastore dX7_newOne_123 m_a2 (by omega) (by omega) ?_
            have HN : RM (aup cm1 2 (80 + srt + s j) (nmM tp n (tE tp n p))) tp n (tE tp n p) := H1.up (by decide) (by decide)
            refine aw_aload_n dX7_newOne_124 rfl ?_
            refine c_X7_148 rfl dX7_newOne_125 m_ob (Nat.le_of_ble_eq_true rfl) (by omega) (C_m_ahead HN.1 HN.goes.1 HN.goes.2 (fun cm2 H2 f2 => ?_))
            refine aK_v ?_
            refine aw_iconst dX7_newOne_128 (by decide) ?_
            refine aw_zreturn dX7_newOne_129 rfl (Or.inr rfl) ?_
            exact hQ (nmX tp n (tE tp n p)) _ (nmM tp n (tE tp n p)) _ (by omega) (by unfold freshP; rw [bnd_r nm9]; exact if_neg (by omega)) hne H2 ((f1.mf.up2 (by omega)).trans f2.mf) (by rw [f2.2 1 (by decide), aup_rn (by decide), c11]) (by rw [f2.2 2 (by decide), aup_r, c12, show 80 + srt + s j = 80 + (srt + s j) by omega])
          · refine aw_aload_n dX7_newOne_94 rfl ?_
            refine aw_iconst dX7_newOne_95 (by decide) ?_
            refine c_X7_154 rfl dX7_newOne_96 m_ob (Nat.le_of_ble_eq_true rfl) (by omega) (C_m_fails H1 (k := 3) (by decide) (fun cm2 hb => ?_))
            refine aK_i ?_
            refine aw_zreturn dX7_newOne_99 rfl (Or.inl rfl) ?_
            rw [if_neg (by omega)] at hb
            exact hF _ _ _ (Or.inr ⟨by omega, by unfold freshP; rw [bnd_r nm9]; exact if_pos (by omega)⟩) (f1.mf.b hb)
    · refine aK_i ?_
      refine aw_ifne (tgt := 40) dX7_newOne_31 (by decide) (fun h => absurd h (by decide)) (fun _ => ?_)
      refine aw_aload_n dX7_newOne_34 rfl ?_
      refine aw_iconst dX7_newOne_35 (by decide) ?_
      refine c_X7_154 rfl dX7_newOne_36 m_ob (Nat.le_of_ble_eq_true rfl) (by omega) (C_m_fails H1 (k := 2) (by decide) (fun cm2 hb => ?_))
      refine aK_i ?_
      refine aw_zreturn dX7_newOne_39 rfl (Or.inl rfl) ?_
      exact hF _ _ _ (Or.inr ⟨by omega, by unfold freshP; exact bnd_l (if_neg hi)⟩) (f1.mf.b (show MB cm1 cm2 (wr tp n (tE tp n p)) (tF tp n (tE tp n p)) from hb))
  · refine aw_aload_n dX7_newOne_14 rfl ?_
    refine aw_bipush dX7_newOne_15 (by decide) ?_
    refine c_X7_154 rfl dX7_newOne_17 m_ob (Nat.le_of_ble_eq_true rfl) (by omega) (C_m_fails H (k := 6) (by decide) (fun cm1 hb => ?_))
    refine aK_i ?_
    refine aw_zreturn dX7_newOne_20 rfl (Or.inl rfl) ?_
    rw [if_neg (by omega)] at hb
    exact hF _ _ _ (Or.inl ⟨by omega, rfl, rfl⟩) hb
theorem C_m_oldOne {cm : Int → Int → Int} {tp : Int → Int} {n p : Int} {N : Int → Int} {b b2 c t : Int} {Q : aPost} (H : RM cm tp n p) (hN : ∀ j, 0 ≤ j → j < c → NE (N (b + j)) (cm 2 (b2 + j))) (hb : 0 ≤ b2 ∧ b2 + c ≤ 110) (hc : 0 ≤ c) (ht : 4920 ≤ t ∧ t < 7578) (hF : ∀ (k pl : Int) (cm1 : Int → Int → Int), oldP tp n p N b c = .inl (k, pl) → MB cm cm1 k pl → Q (.inl (some (vI 0))) (gM cm1)) (hQ : ∀ (x q : Int) (cm1 : Int → Int → Int), oldP tp n p N b c = .inr (x, q) → RM cm1 tp n q → MF cm cm1 → cm1 1 = upA (cm 1) t x → cm1 2 = cm 2 → (∀ i, 19 < i → cm1 0 i = cm 0 i) → cm1 8 = cm 8 → Q (.inl (some (vI 1))) (gM cm1)) : AMet md_X7_oldOne 7 0 0 [vR 0, vI b2, vI c, vI t] (gM cm) Q := by
  refine AMet.go (L := [some (vR 0), some (vI b2), some (vI c), some (vI t)]) mok_X7_oldOne (Nat.le_of_ble_eq_true rfl) rfl ?_
  refine aw_aload_n dX7_oldOne_0 rfl ?_
  refine aw_ldcS (k9 := 23) dX7_oldOne_1 rfl rfl (by decide) ?_
  refine c_X7_167 rfl dX7_oldOne_3 m_ob (Nat.le_of_ble_eq_true rfl) (by omega) (C_m_isName H (fun hi => ?_) (fun hi => ?_))
  · have hne := nmNE H.2.1.2 hi
    have hk9 := hi.1
    have nm9 : nameP tp n p = .inr (nmX tp n p) := if_pos hi
    have q0 : fnd N b c (nmX tp n p) = fnd (cm 2) b2 c (nmM tp n p) := fnd_eq hne hN
    refine aK_i ?_
    refine aw_ifne (tgt := 15) dX7_oldOne_6 (by decide) (fun _ => ?_) (fun h => absurd h (by decide))
    refine gm_7 rfl dX7_oldOne_15 dX7_oldOne_16 rfl ?_
    refine aw_iload_n dX7_oldOne_19 rfl ?_
    refine aw_aload_n dX7_oldOne_20 rfl ?_
    refine aw_iload_n dX7_oldOne_21 rfl ?_
    refine aw_iload_n dX7_oldOne_22 rfl ?_
    refine c_X7_171 rfl dX7_oldOne_23 m_ob (Nat.le_of_ble_eq_true rfl) (by omega) (C_m_findHere H hi hb hc ?_)
    refine aK_i ?_
    refine aw_iastore dX7_oldOne_26 m_a1 (by omega) (by omega) ?_
    have HN : RM (aup cm 1 t (fnd (cm 2) b2 c (nmM tp n p))) tp n p := H.up (by decide) (by decide)
    refine gm_7 rfl dX7_oldOne_27 dX7_oldOne_28 rfl ?_
    refine aw_iload_n dX7_oldOne_31 rfl ?_
    refine aw_iaload dX7_oldOne_32 m_a1 (by omega) (by omega) ?_
    rw [aup_s]
    refine aw_iconst dX7_oldOne_33 (by decide) ?_
    refine aw_icmpne (tgt := 43) dX7_oldOne_34 (by decide) (fun h34 => ?_) (fun h34 => ?_)
    · refine aw_aload_n dX7_oldOne_43 rfl ?_
      refine c_X7_148 rfl dX7_oldOne_44 m_ob (Nat.le_of_ble_eq_true rfl) (by omega) (C_m_ahead HN.1 HN.goes.1 HN.goes.2 (fun cm1 H1 f1 => ?_))
      refine aK_v ?_
      refine aw_iconst dX7_oldOne_47 (by decide) ?_
      refine aw_zreturn dX7_oldOne_48 rfl (Or.inr rfl) ?_
      exact hQ (fnd (cm 2) b2 c (nmM tp n p)) _ _ (by unfold oldP; rw [bnd_r nm9, q0]; exact if_neg (by omega)) H1 ((MF.rf.up1 ht.1).trans f1.mf) (by rw [f1.2 1 (by decide), aup_r]) (by rw [f1.2 2 (by decide), aup_rn (by decide)]) (fun i hi9 => by rw [f1.1 i (by omega), aup_rn (by decide)]) (by rw [f1.2 8 (by decide), aup_rn (by decide)])
    · refine aw_aload_n dX7_oldOne_37 rfl ?_
      refine aw_iconst dX7_oldOne_38 (by decide) ?_
      refine c_X7_154 rfl dX7_oldOne_39 m_ob (Nat.le_of_ble_eq_true rfl) (by omega) (C_m_fails HN (k := 3) (by decide) (fun cm1 hb9 => ?_))
      refine aK_i ?_
      refine aw_zreturn dX7_oldOne_42 rfl (Or.inl rfl) ?_
      rw [if_neg (by omega)] at hb9
      exact hF _ _ _ (by unfold oldP; rw [bnd_r nm9]; exact if_pos (by omega)) ((MF.rf.up1 ht.1).b hb9)
  · refine aK_i ?_
    refine aw_ifne (tgt := 15) dX7_oldOne_6 (by decide) (fun h => absurd h (by decide)) (fun _ => ?_)
    refine aw_aload_n dX7_oldOne_9 rfl ?_
    refine aw_iconst dX7_oldOne_10 (by decide) ?_
    refine c_X7_154 rfl dX7_oldOne_11 m_ob (Nat.le_of_ble_eq_true rfl) (by omega) (C_m_fails H (k := 2) (by decide) (fun cm1 hb9 => ?_))
    refine aK_i ?_
    refine aw_zreturn dX7_oldOne_14 rfl (Or.inl rfl) ?_
    exact hF _ _ _ (by unfold oldP; exact bnd_l (if_neg hi)) (show MB cm cm1 (wr tp n p) (tF tp n p) from hb9)
theorem L_m_ad64 {cm cm9 : Int → Int → Int} {tp s N : Int → Int} {n q x m m1 : Int} {Q : aPost} {d kc ks : Nat} (hd : 1 ≤ d) (hS : SM cm s N) (hy : YI s) (h8 : s 2 ≠ 8) (hne : NE x m1) (H9 : RM cm9 tp n q) (f9 : MF cm cm9) (g1 : cm9 1 = upA (cm 1) (4966 + 2 * s 2) m) (g2 : cm9 2 = upA (cm 2) (80 + (4 + s 2)) m1) (hQ : ∀ cm1 : Int → Int → Int, RM cm1 tp n q → MF cm cm1 → SM cm1 (addD s m) (upA N (4 + s 2) x) → Q (.inl (some (vI 1))) (gM cm1)) : AW (mq Q) md_X7_aDrone d kc ks 64 [some (vR 0), some (vI (4966 + 2 * s 2))] [] (gM cm9) := by
  have P0 := hy.1.1
  have PQ1 := hy.1.2.2.2.1
  have PQ0 := PQ1.1
  have e2 : cm 1 4922 = s 2 := by rw [show (4922 : Int) = 4920 + 2 by decide]; exact hS.1 2 (by decide) (by decide)
  have e13 : cm 1 4933 = s 13 := by rw [show (4933 : Int) = 4920 + 13 by decide]; exact hS.1 13 (by decide) (by decide)
  have e1s := PQ1.2.1
  refine gm_7 rfl dX7_aDrone_64 dX7_aDrone_65 rfl ?_
  refine aw_iload_n dX7_aDrone_68 rfl ?_
  refine aw_iconst dX7_aDrone_69 (by decide) ?_
  refine aw_iaddr dX7_aDrone_70 (by omega) ?_
  refine gm_7 rfl dX7_aDrone_71 dX7_aDrone_72 rfl ?_
  refine aw_sipush dX7_aDrone_75 (by decide) ?_
  refine aw_iaload dX7_aDrone_78 m_a1 (by omega) (by omega) ?_
  rw [g1, upA_n (by omega), e13]
  refine aw_iastore dX7_aDrone_79 m_a1 (by omega) (by omega) ?_
  refine gm_7 rfl dX7_aDrone_80 dX7_aDrone_81 rfl ?_
  refine aw_sipush dX7_aDrone_84 (by decide) ?_
  refine aw_dup2 dX7_aDrone_87 rfl rfl ?_
  refine aw_iaload dX7_aDrone_88 m_a1 (by omega) (by omega) ?_
  rw [aup_n (by omega), g1, upA_n (by omega), e13]
  refine aw_iconst dX7_aDrone_89 (by decide) ?_
  refine aw_iaddr dX7_aDrone_90 (by omega) ?_
  refine aw_iastore dX7_aDrone_91 m_a1 (by omega) (by omega) ?_
  refine gm_7 rfl dX7_aDrone_92 dX7_aDrone_93 rfl ?_
  refine aw_sipush dX7_aDrone_96 (by decide) ?_
  refine aw_dup2 dX7_aDrone_99 rfl rfl ?_
  refine aw_iaload dX7_aDrone_100 m_a1 (by omega) (by omega) ?_
  rw [aup_n (by omega), aup_n (by omega), g1, upA_n (by omega), e2]
  refine aw_iconst dX7_aDrone_101 (by decide) ?_
  refine aw_iaddr dX7_aDrone_102 (by omega) ?_
  refine aw_iastore dX7_aDrone_103 m_a1 (by omega) (by omega) ?_
  refine aw_iconst dX7_aDrone_104 (by decide) ?_
  refine aw_zreturn dX7_aDrone_105 rfl (Or.inr rfl) ?_
  refine hQ _ (((H9.up (by decide) (by decide)).up (by decide) (by decide)).up (by decide) (by decide)) (((f9.up1 (by omega)).up1 (by omega)).up1 (by omega)) (SM_up hS hne ⟨P0, PQ0⟩ (Or.inr (Or.inl ⟨rfl, by omega, addD_n (by omega) (by omega) (by omega) (by omega), addD_n (by omega) (by omega) (by omega) (by omega), upA_s⟩)) (by rw [aup_rn (by decide), aup_rn (by decide), aup_rn (by decide)]; exact g2) (fun i i0 i1 => ?_))
  rw [aup_r, aup_r, aup_r, g1]
  unfold addD
  have hi := hS.1 i i0 i1
  simp only [upA]
  rw [hi]
  repeat' split
  all_goals (first | rfl | omega)
theorem C_m_aDrone {cm : Int → Int → Int} {tp : Int → Int} {n p : Int} {s N : Int → Int} {Q : aPost} (H : RM cm tp n p) (hK : tK tp n p = 1) (hS : SM cm s N) (hy : YI s) (hF : ∀ (k pl : Int) (cm1 : Int → Int → Int), droneP tp n p s N = .inl (k, pl) → MB cm cm1 k pl → Q (.inl (some (vI 0))) (gM cm1)) (hQ : ∀ (q : Int) (s1 N1 : Int → Int) (cm1 : Int → Int → Int), droneP tp n p s N = .inr (q, s1, N1) → RM cm1 tp n q → MF cm cm1 → SM cm1 s1 N1 → YI s1 → Q (.inl (some (vI 1))) (gM cm1)) : AMet md_X7_aDrone 8 0 0 [vR 0] (gM cm) Q := by
  refine AMet.go (L := [some (vR 0), none]) mok_X7_aDrone (Nat.le_of_ble_eq_true rfl) rfl ?_
  have P0 := hy.1.1
  have PQ1 := hy.1.2.2.2.1
  have PQ0 := PQ1.1
  have e1 : cm 1 4921 = s 1 := by rw [show (4921 : Int) = 4920 + 1 by decide]; exact hS.1 1 (by decide) (by decide)
  have e2 : cm 1 4922 = s 2 := by rw [show (4922 : Int) = 4920 + 2 by decide]; exact hS.1 2 (by decide) (by decide)
  refine aw_sipush dX7_aDrone_0 (by decide) ?_
  refine aw_iconst dX7_aDrone_3 (by decide) ?_
  refine gm_7 rfl dX7_aDrone_4 dX7_aDrone_5 rfl ?_
  refine aw_sipush dX7_aDrone_8 (by decide) ?_
  refine aw_iaload dX7_aDrone_11 m_a1 (by omega) (by omega) ?_
  rw [e2]
  refine aw_imulr dX7_aDrone_12 (by omega) ?_
  refine aw_iaddr dX7_aDrone_13 (by omega) ?_
  refine aw_istore1 dX7_aDrone_14 (by decide) rfl ?_
  refine aw_aload_n dX7_aDrone_15 rfl ?_
  refine aw_iconst dX7_aDrone_16 (by decide) ?_
  refine aw_bipush dX7_aDrone_17 (by decide) ?_
  refine aw_iconst dX7_aDrone_19 (by decide) ?_
  refine c_X7_174 rfl dX7_aDrone_20 m_ob (Nat.le_of_ble_eq_true rfl) (by omega) (C_m_newOne (j := 2) (most := 8) (srt := 4) H hK hS hy (by omega) (fun k pl cm1 e9 hb => ?_) (fun x q m1 cm1 h8 e9 hne H1 f1 c1 c2 => ?_))
  · have Z := hF k pl cm1 (by
      unfold droneP
      rcases e9 with ⟨a, b, c⟩ | ⟨a, b⟩
      · rw [if_pos a, b, c]
      · rw [if_neg a]; exact bnd_l b) hb
    refine aK_i ?_
    refine aw_ifne (tgt := 28) dX7_aDrone_23 (by decide) (fun h => absurd h (by decide)) (fun _ => ?_)
    refine aw_iconst dX7_aDrone_26 (by decide) ?_
    refine aw_zreturn dX7_aDrone_27 rfl (Or.inl rfl) ?_
    exact Z
  · refine aK_i ?_
    refine aw_ifne (tgt := 28) dX7_aDrone_23 (by decide) (fun _ => ?_) (fun h => absurd h (by decide))
    refine gm_7 rfl dX7_aDrone_28 dX7_aDrone_29 rfl ?_
    refine aw_iload_n dX7_aDrone_32 rfl ?_
    refine aw_iconst dX7_aDrone_33 (by decide) ?_
    refine aw_iastore dX7_aDrone_34 m_a1 (by omega) (by omega) ?_
    have HN : RM (aup cm1 1 (4966 + 2 * s 2) (-1)) tp n q := H1.up (by decide) (by decide)
    refine aw_aload_n dX7_aDrone_35 rfl ?_
    refine aw_bipush dX7_aDrone_36 (by decide) ?_
    refine c_X7_185 rfl dX7_aDrone_38 m_ob (Nat.le_of_ble_eq_true rfl) (by omega) (C_m_isThere HN (fun hw => ?_) (fun cm2 hw H2 f2 => ?_))
    · have hm : momP tp n q s N = .inr (-1, q) := if_neg hw
      have eD : droneP tp n p s N = .inr (q, addD s (-1), upA N (4 + s 2) x) := by unfold droneP; rw [if_neg h8, bnd_r e9]; exact bnd_r hm
      refine aK_i ?_
      refine aw_ifeq (tgt := 64) dX7_aDrone_41 (by decide) (fun _ => ?_) (fun h => absurd h (by decide))
      first
        | exact L_m_ad64 (by decide) hS hy h8 hne HN (f1.up1 (by omega)) (by rw [aup_r, c1]) (by rw [aup_rn (by decide)]; exact c2) (fun cm9 k1 k2 k3 => hQ _ _ _ cm9 eD k1 k2 k3 (YI_addD hy (by omega) (Or.inl rfl)))
        | exact L_m_ad64 (by decide) hS hy h8 hne H3 (((f1.up1 (by omega)).trans f2.mf).trans f3) (by rw [g3, d2, upA_o2]) (by rw [g4, d3]) (fun cm9 k1 k2 k3 => hQ _ _ _ cm9 eD k1 k2 k3 (YI_addD hy (by omega) hm9))
    · have d2 : cm2 1 = upA (cm 1) (4966 + 2 * s 2) (-1) := by rw [f2.2 1 (by decide), aup_r, c1]
      have d3 : cm2 2 = upA (cm 2) (80 + (4 + s 2)) m1 := by rw [f2.2 2 (by decide), aup_rn (by decide), c2]
      refine aK_i ?_
      refine aw_ifeq (tgt := 64) dX7_aDrone_41 (by decide) (fun h => absurd h (by decide)) (fun _ => ?_)
      refine aw_aload_n dX7_aDrone_44 rfl ?_
      refine aw_bipush dX7_aDrone_45 (by decide) ?_
      refine gm_7 rfl dX7_aDrone_47 dX7_aDrone_48 rfl ?_
      refine aw_sipush dX7_aDrone_51 (by decide) ?_
      refine aw_iaload dX7_aDrone_54 m_a1 (by omega) (by omega) ?_
      rw [d2, upA_n (by omega), e1]
      refine aw_iload_n dX7_aDrone_55 rfl ?_
      refine c_X7_191 rfl dX7_aDrone_56 m_ob (Nat.le_of_ble_eq_true rfl) (by omega) (C_m_oldOne (N := N) (b := 12) H2 (fun j j0 j1 => by rw [d3, upA_n (by omega), show (92 : Int) + j = 80 + (12 + j) by omega]; exact hS.2.2.2 j j0 j1) (by omega) (by omega) (by omega) (fun k pl cm3 e8 hb => ?_) (fun m q3 cm3 e8 H3 f3 g3 g4 _ _ => ?_))
      · have hm : momP tp n q s N = .inl (k, pl) := (if_pos hw).trans e8
        have Z := hF k pl cm3 (by unfold droneP; rw [if_neg h8, bnd_r e9]; exact bnd_l hm) (((f1.up1 (by omega)).trans f2.mf).b hb)
        refine aK_i ?_
        refine aw_ifne (tgt := 64) dX7_aDrone_59 (by decide) (fun h => absurd h (by decide)) (fun _ => ?_)
        refine aw_iconst dX7_aDrone_62 (by decide) ?_
        refine aw_zreturn dX7_aDrone_63 rfl (Or.inl rfl) ?_
        exact Z
      · have hm : momP tp n q s N = .inr (m, q3) := (if_pos hw).trans e8
        have eD : droneP tp n p s N = .inr (q3, addD s m, upA N (4 + s 2) x) := by unfold droneP; rw [if_neg h8, bnd_r e9]; exact bnd_r hm
        have hm9 := (momP_r (s := s) (N := N) H1.2.1.2 PQ0.1.1 hm).1
        refine aK_i ?_
        refine aw_ifne (tgt := 64) dX7_aDrone_59 (by decide) (fun _ => ?_) (fun h => absurd h (by decide))
        first
          | exact L_m_ad64 (by decide) hS hy h8 hne HN (f1.up1 (by omega)) (by rw [aup_r, c1]) (by rw [aup_rn (by decide)]; exact c2) (fun cm9 k1 k2 k3 => hQ _ _ _ cm9 eD k1 k2 k3 (YI_addD hy (by omega) (Or.inl rfl)))
          | exact L_m_ad64 (by decide) hS hy h8 hne H3 (((f1.up1 (by omega)).trans f2.mf).trans f3) (by rw [g3, d2, upA_o2]) (by rw [g4, d3]) (fun cm9 k1 k2 k3 => hQ _ _ _ cm9 eD k1 k2 k3 (YI_addD hy (by omega) hm9))
