set_option maxRecDepth 100000
/-! the Reader: a yard -/
theorem L_x_ryd {own0 : Int → Int} {sz0 : Int} {im0 : Int → aIm} {ct0 : Int → Int → Int} {ya la a : Int} {tp : Int → Int} {n : Int} {Q : aPost} {d kc ks : Nat} (hd : 13 ≤ d) : ∀ (r : Nat) (p : Int) (s N own : Int → Int) (sz : Int) (im : Int → aIm) (ct : Int → Int → Int), n - p < r → RDX sz im ct a tp n p → XB own0 sz0 im0 ct0 own sz im ct ya la a s N → (∀ (k pl sz1 : Int) (im1 : Int → aIm) (ct1 : Int → Int → Int), yardP tp n r p s N = .inl (k, pl) → OLD sz0 im0 ct0 sz1 im1 ct1 → ct1 7 6 = k → ct1 7 7 = pl → Q (.inr (0, 7)) (sz1, im1, ct1)) → (∀ (q : Int) (s1 N1 own1 : Int → Int) (sz1 : Int) (im1 : Int → aIm) (ct1 : Int → Int → Int), yardP tp n r p s N = .inr (q, s1, N1) → RDX sz1 im1 ct1 a tp n q → XB own0 sz0 im0 ct0 own1 sz1 im1 ct1 ya la a s1 N1 → AW (mq Q) md_X8_yard d kc ks 70 [some (vR a), some (vR ya), none] [] (sz1, im1, ct1)) → AW (mq Q) md_X8_yard d (15 * (5 - s 0).toNat + kc) (227 * (5 - s 0).toNat + ks) 0 [some (vR a), some (vR ya), none] [] (sz, im, ct) := by
  intro r
  induction r with
  | zero =>
    intro p s N own sz im ct h1 HR
    have := HR.2.1
    omega
  | succ r ih =>
    intro p s N own sz im ct h1 HR HB hF K
    have hp := HR.2.1
    have ha := HR.1.1.1
    have hBad := HR.1.2.1.2.2.2.2
    have e3 := HR.2.2.2.2.1
    have hK := tK_bd (tp := tp) (n := n) (p := p)
    have P0 := HB.2.2.2.2.2.2.2.1.1
    have PQ0 := HB.2.2.2.2.2.2.2.1.2.2.2.1.1
    refine aw_aload_n dX8_yard_0 rfl ?_
    refine g_X8_32_8 rfl dX8_yard_1 ha ?_
    rw [e3]
    refine aw_ifeq (tgt := 70) dX8_yard_4 (by decide) (fun h4 => ?_) (fun h4 => ?_)
    · refine AW.widen (kc' := kc) (ks' := ks) (by omega) (by omega) ?_
      exact K p s N own sz im ct (if_pos h4) HR HB
    · have hk0 : ¬ tK tp n p = 0 := h4
      refine aw_aload_n dX8_yard_7 rfl ?_
      refine aw_ldcS (k9 := 0) dX8_yard_8 rfl rfl (by decide) ?_
      refine c_X8_72 rfl dX8_yard_10 ha (Nat.le_of_ble_eq_true rfl) (by omega) (C_x_isWord (k := 0) (w := 0) HR (by decide) rfl (fun hw0 => ?_) (fun hw0 => ?_))
      · refine aK_i ?_
        refine aw_ifeq (tgt := 24) dX8_yard_13 (by decide) (fun h => absurd h (by decide)) (fun _ => ?_)
        refine aw_aload_n dX8_yard_16 rfl ?_
        refine aw_aload_n dX8_yard_17 rfl ?_
        have eP : partP tp n p s N = hiveP tp n p s N := by unfold partP; rw [if_pos hw0]
        have eY : yardP tp n (r + 1) p s N = bnd (hiveP tp n p s N) fun q => if sgn tp n q.1 59 then yardP tp n r (tE tp n q.1) q.2.1 q.2.2 else .inl (wr tp n q.1, tF tp n q.1) := by
          rw [← eP]; exact if_neg hk0
        refine c_X8_165a (kc1 := 15) (ks1 := 227) (kc2 := 15 * (5 - (s 0 + 1)).toNat + kc) (ks2 := 227 * (5 - (s 0 + 1)).toNat + ks) (by omega) (by omega) rfl dX8_yard_18 ha (Nat.le_of_ble_eq_true rfl) (by omega) (C_x_newHive HR HB (fun k2 pl sz2 im2 ct2 e9 o2 t6 t7 => ?_) (fun q s1 N1 own2 sz2 im2 ct2 e9 zs HR2 HB2 f5 => ?_))
        · exact aK_x (ax_out rfl (hF _ _ _ _ _ (by rw [eY]; exact bnd_l e9) o2 t6 t7))
        · have hs9 := hiveP_p hp.2 e9
          rw [bnd_r e9] at eY
          dsimp only at eY
          refine aK_v ?_
          refine aw_goto (tgt := 63) dX8_yard_21 (by decide) ?_
          obtain ⟨kc9, ek⟩ : ∃ z, z = 15 * (5 - s1 0).toNat + kc := ⟨_, rfl⟩
          obtain ⟨ks9, es⟩ : ∃ z, z = 227 * (5 - s1 0).toNat + ks := ⟨_, rfl⟩
          refine AW.widen (kc' := kc9) (ks' := ks9) (by omega) (by omega) ?_
          refine aw_aload_n dX8_yard_63 rfl ?_
          refine c_X8_175 rfl dX8_yard_64 HR2.1.1.1 (Nat.le_of_ble_eq_true rfl) (by omega) (C_x_close HR2 (fun ct3 hs f3 => ?_) (fun ct3 hs HR3 f3 => ?_))
          · exact aK_x (ax_out rfl (hF _ _ _ _ _ (by rw [eY, if_neg hs]) (HB2.fault f3) f3.2.1 f3.2.2))
          · refine aK_v ?_
            refine aw_goto (tgt := 0) dX8_yard_67 (by decide) ?_
            rw [if_pos hs] at eY
            rw [eY] at hF K
            have hx := tE_lt (tp := tp) (n := n) (p := q) HR2.2.1.2 (by omega)
            have hy := tF_bd (tp := tp) (n := n) (p := q) HR2.2.1.2
            rw [ek, es]
            exact ih _ _ _ _ _ _ _ (by omega) HR3 (HB2.fa f3.1) hF K
      · refine aK_i ?_
        refine aw_ifeq (tgt := 24) dX8_yard_13 (by decide) (fun _ => ?_) (fun h => absurd h (by decide))
        refine aw_aload_n dX8_yard_24 rfl ?_
        refine aw_ldcS (k9 := 3) dX8_yard_25 rfl rfl (by decide) ?_
        refine c_X8_72 rfl dX8_yard_27 ha (Nat.le_of_ble_eq_true rfl) (by omega) (C_x_isWord (k := 3) (w := 1) HR (by decide) rfl (fun hw3 => ?_) (fun hw3 => ?_))
        · refine aK_i ?_
          refine aw_ifeq (tgt := 41) dX8_yard_30 (by decide) (fun h => absurd h (by decide)) (fun _ => ?_)
          refine aw_aload_n dX8_yard_33 rfl ?_
          refine aw_aload_n dX8_yard_34 rfl ?_
          have eP : partP tp n p s N = droneP tp n p s N := by unfold partP; rw [if_neg (by omega), if_pos hw3]
          have eY : yardP tp n (r + 1) p s N = bnd (droneP tp n p s N) fun q => if sgn tp n q.1 59 then yardP tp n r (tE tp n q.1) q.2.1 q.2.2 else .inl (wr tp n q.1, tF tp n q.1) := by
            rw [← eP]; exact if_neg hk0
          refine c_X8_169 rfl dX8_yard_35 ha (Nat.le_of_ble_eq_true rfl) (by omega) (C_x_newDrone HR HB (fun k2 pl sz2 im2 ct2 e9 o2 t6 t7 => ?_) (fun q s1 N1 ct2 e9 HR2 HB2 f5 => ?_))
          · exact aK_x (ax_out rfl (hF _ _ _ _ _ (by rw [eY]; exact bnd_l e9) o2 t6 t7))
          · have hs9 := droneP_p hp.2 PQ0.1.1 PQ0.2.1 e9
            rw [bnd_r e9] at eY
            dsimp only at eY
            refine aK_v ?_
            refine aw_goto (tgt := 63) dX8_yard_38 (by decide) ?_
            obtain ⟨kc9, ek⟩ : ∃ z, z = 15 * (5 - s1 0).toNat + kc := ⟨_, rfl⟩
            obtain ⟨ks9, es⟩ : ∃ z, z = 227 * (5 - s1 0).toNat + ks := ⟨_, rfl⟩
            refine AW.widen (kc' := kc9) (ks' := ks9) (by omega) (by omega) ?_
            refine aw_aload_n dX8_yard_63 rfl ?_
            refine c_X8_175 rfl dX8_yard_64 HR2.1.1.1 (Nat.le_of_ble_eq_true rfl) (by omega) (C_x_close HR2 (fun ct3 hs f3 => ?_) (fun ct3 hs HR3 f3 => ?_))
            · exact aK_x (ax_out rfl (hF _ _ _ _ _ (by rw [eY, if_neg hs]) (HB2.fault f3) f3.2.1 f3.2.2))
            · refine aK_v ?_
              refine aw_goto (tgt := 0) dX8_yard_67 (by decide) ?_
              rw [if_pos hs] at eY
              rw [eY] at hF K
              have hx := tE_lt (tp := tp) (n := n) (p := q) HR2.2.1.2 (by omega)
              have hy := tF_bd (tp := tp) (n := n) (p := q) HR2.2.1.2
              rw [ek, es]
              exact ih _ _ _ _ _ _ _ (by omega) HR3 (HB2.fa f3.1) hF K
        · refine aK_i ?_
          refine aw_ifeq (tgt := 41) dX8_yard_30 (by decide) (fun _ => ?_) (fun h => absurd h (by decide))
          refine aw_aload_n dX8_yard_41 rfl ?_
          refine aw_ldcS (k9 := 5) dX8_yard_42 rfl rfl (by decide) ?_
          refine c_X8_72 rfl dX8_yard_44 ha (Nat.le_of_ble_eq_true rfl) (by omega) (C_x_isWord (k := 5) (w := 2) HR (by decide) rfl (fun hw5 => ?_) (fun hw5 => ?_))
          · refine aK_i ?_
            refine aw_ifeq (tgt := 58) dX8_yard_47 (by decide) (fun h => absurd h (by decide)) (fun _ => ?_)
            refine aw_aload_n dX8_yard_50 rfl ?_
            refine aw_aload_n dX8_yard_51 rfl ?_
            have eP : partP tp n p s N = queenP tp n p s N := by unfold partP; rw [if_neg (by omega), if_neg (by omega), if_pos hw5]
            have eY : yardP tp n (r + 1) p s N = bnd (queenP tp n p s N) fun q => if sgn tp n q.1 59 then yardP tp n r (tE tp n q.1) q.2.1 q.2.2 else .inl (wr tp n q.1, tF tp n q.1) := by
              rw [← eP]; exact if_neg hk0
            refine c_X8_172 rfl dX8_yard_52 ha (Nat.le_of_ble_eq_true rfl) (by omega) (C_x_newQueen HR HB (fun k2 pl sz2 im2 ct2 e9 o2 t6 t7 => ?_) (fun q s1 N1 ct2 e9 HR2 HB2 f5 => ?_))
            · exact aK_x (ax_out rfl (hF _ _ _ _ _ (by rw [eY]; exact bnd_l e9) o2 t6 t7))
            · have hs9 := queenP_p hp.2 PQ0.1.1 P0.1 PQ0.2.1 e9
              rw [bnd_r e9] at eY
              dsimp only at eY
              refine aK_v ?_
              refine aw_goto (tgt := 63) dX8_yard_55 (by decide) ?_
              obtain ⟨kc9, ek⟩ : ∃ z, z = 15 * (5 - s1 0).toNat + kc := ⟨_, rfl⟩
              obtain ⟨ks9, es⟩ : ∃ z, z = 227 * (5 - s1 0).toNat + ks := ⟨_, rfl⟩
              refine AW.widen (kc' := kc9) (ks' := ks9) (by omega) (by omega) ?_
              refine aw_aload_n dX8_yard_63 rfl ?_
              refine c_X8_175 rfl dX8_yard_64 HR2.1.1.1 (Nat.le_of_ble_eq_true rfl) (by omega) (C_x_close HR2 (fun ct3 hs f3 => ?_) (fun ct3 hs HR3 f3 => ?_))
              · exact aK_x (ax_out rfl (hF _ _ _ _ _ (by rw [eY, if_neg hs]) (HB2.fault f3) f3.2.1 f3.2.2))
              · refine aK_v ?_
                refine aw_goto (tgt := 0) dX8_yard_67 (by decide) ?_
                rw [if_pos hs] at eY
                rw [eY] at hF K
                have hx := tE_lt (tp := tp) (n := n) (p := q) HR2.2.1.2 (by omega)
                have hy := tF_bd (tp := tp) (n := n) (p := q) HR2.2.1.2
                rw [ek, es]
                exact ih _ _ _ _ _ _ _ (by omega) HR3 (HB2.fa f3.1) hF K
          · refine aK_i ?_
            refine aw_ifeq (tgt := 58) dX8_yard_47 (by decide) (fun _ => ?_) (fun h => absurd h (by decide))
            refine aw_aload_n dX8_yard_58 rfl ?_
            refine c_X8_68 rfl dX8_yard_59 ha (Nat.le_of_ble_eq_true rfl) (by omega) (C_x_wrong HR (fun ctw fw => ?_))
            refine aK_i ?_
            have eP : partP tp n p s N = .inl (wr tp n p, tF tp n p) := by unfold partP; rw [if_neg (by omega), if_neg (by omega), if_neg (by omega)]
            have eY : yardP tp n (r + 1) p s N = .inl (wr tp n p, tF tp n p) := (if_neg hk0).trans (bnd_l eP)
            exact aw_athrow (E := 0) dX8_yard_62 hBad ⟨_, rfl, rfl⟩ (ax_out rfl (hF _ _ _ _ _ eY (HB.fault fw) fw.2.1 fw.2.2))
theorem L_x_rybr {own : Int → Int} {y sz : Int} {im : Int → aIm} {ct : Int → Int → Int} {ya dd : Int} {s N : Int → Int} {a : Int} {Q : aPost} {d kc ks : Nat} (hd : 4 ≤ d) (HY0 : YR own y sz im ct ya (upA s 4 0) dd N) (hs : YI s) (hQ : ∀ ct1 : Int → Int → Int, YR own y sz im ct1 ya s dd N → (∀ x j, ¬ (x = ya ∧ j = 9) → ct1 x j = ct x j) → Q (.inl none) (sz, im, ct1)) : ∀ (r k : Nat) (ct1 : Int → Int → Int), (k : Int) + r = s 0 → ct1 ya 9 = isum (hoK s) k → (∀ x j, ¬ (x = ya ∧ j = 9) → ct1 x j = ct x j) → AW (mq Q) md_X8_yard d kc ks 72 [some (vR a), some (vR ya), some (vI k)] [] (sz, im, ct1) := by
  have P0 := hs.1.1
  have eu : upA s 4 0 0 = s 0 := upA_n (by decide)
  have h2 : ct ya 2 = s 0 := HY0.2.2.2.2.2.1.1.trans eu
  have hb : ∀ k : Nat, (k : Int) ≤ s 0 → 0 ≤ isum (hoK s) k ∧ isum (hoK s) k ≤ 19200 * k := fun k hk => isum_bd (g := hoK s) (B := 19200) (n := k) fun i i0 i1 => hoK_bd hs.1 i0 (by omega)
  intro r
  induction r with
  | zero =>
    intro k ct1 h1 h3 h4
    have h21 : ct1 ya 2 = s 0 := by rw [h4 _ _ (by omega)]; exact h2
    refine aw_iload_n dX8_yard_72 rfl ?_
    refine aw_aload_n dX8_yard_73 rfl ?_
    refine g_X8_178_5 rfl dX8_yard_74 HY0.1 ?_
    rw [h21]
    refine aw_icmpge (tgt := 104) dX8_yard_77 (by decide) (fun h77 => ?_) (fun h77 => ?_)
    · refine aw_ret dX8_yard_104 rfl ?_
      refine hQ ct1 ?_ h4
      obtain ⟨g1, g2, g3, g4, g5, ⟨a1, a2, a3, a4, a5, a6, a7, a8⟩, ⟨w1, w2⟩, g8⟩ := id HY0
      have oy := HY0.2.1
      have Y1 : YR own y sz im ct1 ya (upA s 4 0) dd N → True := fun _ => trivial
      refine HY0.scal (s' := s) (ct' := ct1) (fun x j hx => h4 x j (fun z => hx z.1)) (fun i hi => (upA_n (by omega)).symm) eu.symm ⟨?_, ?_, ?_, ?_, ?_, ?_, ?_, ?_⟩ ⟨?_, fun z => ?_⟩
      · exact h21
      · rw [h4 _ _ (by omega)]; exact a2
      · rw [h4 _ _ (by omega), a3, upA_n (by decide)]
      · rw [h4 _ _ (by omega), a4, upA_n (by decide)]
      · rw [h4 _ _ (by omega), a5, upA_n (by decide)]
      · rw [h4 _ _ (by omega), a6, upA_n (by decide)]
      · rw [h4 _ _ (by omega), a7, upA_n (by decide)]
      · rw [h3, hs.2.2.2.1, show k = (s 0).toNat by omega]
      · rw [h4 _ _ (by omega), w1, upA_n (by decide)]
      · rw [h4 _ _ (by omega), w2 (by rw [upA_n (by decide)]; exact z), upA_n (by decide)]
    · exfalso; omega
  | succ r ih =>
    intro k ct1 h1 h3 h4
    have h21 : ct1 ya 2 = s 0 := by rw [h4 _ _ (by omega)]; exact h2
    have hb1 := hb k (by omega)
    have hb2 := hb (k + 1) (by omega)
    have oy := HY0.2.1
    have oh := HY0.2.2.2.1
    have nhy : (im ya).2.2 1 ≠ ya := fun z => aob_ne HY0.1 HY0.2.2.1 (by decide) z.symm
    have HY1 : YH own (10 * y + k) sz im ct1 (ct ((im ya).2.2 1) k) (upA s 4 0) (64 + 198 * k) (N k) := (HY0.2.2.2.2.2.2.2 k (by omega) (by omega)).frame fun x j hx => h4 x j (fun z => by rw [z.1] at hx; omega)
    have pk := hs.1.2.2.1 k (by omega) (by omega)
    have e6 : upA s 4 0 (64 + 198 * (k : Int)) = s (64 + 198 * k) := upA_n (by omega)
    have hS := HY1.1
    have hC := HY1.2.1
    rw [e6] at hS hC
    have ehk : isum (fun i => sv 0 (sh (64 + 198 * (k : Int)) (upA s 4 0) i)) (nF (s (64 + 198 * k))) = hoK s k := by
      unfold hoK
      refine isum_congr fun i i0 i1 => ?_
      show sv 0 _ = sv 0 _
      unfold sh
      rw [upA_n (by omega)]
    have hhk := hoK_bd hs.1 (k := k) (by omega) (by omega)
    have e1 : isum (hoK s) (k + 1) = isum (hoK s) k + hoK s k := rfl
    refine aw_iload_n dX8_yard_72 rfl ?_
    refine aw_aload_n dX8_yard_73 rfl ?_
    refine g_X8_178_5 rfl dX8_yard_74 HY0.1 ?_
    rw [h21]
    refine aw_icmpge (tgt := 104) dX8_yard_77 (by decide) (fun h77 => ?_) (fun h77 => ?_)
    · exfalso; omega
    · refine aw_aload_n dX8_yard_80 rfl ?_
      refine aw_dup dX8_yard_81 rfl ?_
      refine g_X8_181_5 rfl dX8_yard_82 HY0.1 ?_
      rw [h3]
      refine aw_aload_n dX8_yard_85 rfl ?_
      refine g_X8_184_5 rfl dX8_yard_86 HY0.1 ?_
      refine aw_iload_n dX8_yard_89 rfl ?_
      refine aw_aaload dX8_yard_90 HY0.2.2.1 (by decide) (by omega) (by omega) ?_
      rw [h4 _ _ (fun z => nhy z.1)]
      refine c_X8_188 rfl dX8_yard_91 hS.1 (Nat.le_of_ble_eq_true rfl) (by omega) (C_x_honey hS hC (fun i i0 i1 => by unfold sh; rw [upA_n (by omega)]; exact pk.2.1 i i0 i1) ?_)
      rw [ehk]
      refine aK_i ?_
      refine aw_iaddr dX8_yard_94 (by omega) ?_
      refine p_X8_181_5 rfl dX8_yard_95 HY0.1 ?_
      refine aw_iinc2r dX8_yard_98 (by decide) (by decide) rfl (by omega) ?_
      refine aw_goto (tgt := 72) dX8_yard_101 (by decide) ?_
      have h9 := ih (k + 1) (aup ct1 ya 9 (isum (hoK s) k + hoK s k)) (by omega) (by rw [aup_s]; rfl) (fun x j hx => by rw [aup_n hx]; exact h4 x j hx)
      exact h9
theorem C_x_ryard {own0 own : Int → Int} {sz0 sz : Int} {im0 im : Int → aIm} {ct0 ct : Int → Int → Int} {ya la a : Int} {s N tp : Int → Int} {n p : Int} {r : Nat} {Q : aPost} (hr : n - p < r) (HR : RDX sz im ct a tp n p) (HB : XB own0 sz0 im0 ct0 own sz im ct ya la a s N) (hF : ∀ (k pl sz1 : Int) (im1 : Int → aIm) (ct1 : Int → Int → Int), yardP tp n r p s N = .inl (k, pl) → OLD sz0 im0 ct0 sz1 im1 ct1 → ct1 7 6 = k → ct1 7 7 = pl → Q (.inr (0, 7)) (sz1, im1, ct1)) (hQ : ∀ (q : Int) (s1 N1 own1 : Int → Int) (sz1 : Int) (im1 : Int → aIm) (ct1 : Int → Int → Int), yardP tp n r p s N = .inr (q, s1, N1) → OLD sz0 im0 ct0 sz1 im1 ct1 → (∀ x, x < sz0 → own1 x = own0 x) → YR own1 5 sz1 im1 ct1 ya s1 0 N1 → ct1 ya 0 = la → LR own1 sz1 im1 ct1 la s1 N1 → YI s1 → Q (.inl none) (sz1, im1, ct1)) : AMet md_X8_yard 13 75 1135 [vR a, vR ya] (sz, im, ct) Q := by
  refine AMet.go (L := [some (vR a), some (vR ya), none]) mok_X8_yard (Nat.le_of_ble_eq_true rfl) rfl ?_
  have P0 := HB.2.2.2.2.2.2.2.1.1
  refine AW.widen (kc' := 15 * (5 - s 0).toNat + 0) (ks' := 227 * (5 - s 0).toNat + 0) (by omega) (by omega) ?_
  refine L_x_ryd (by omega) r p s N own sz im ct hr HR HB hF (fun q s1 N1 own1 sz1 im1 ct1 e9 HR1 HB1 => ?_)
  obtain ⟨B1, B2, B3, B4, ⟨B5, B6, B7⟩, ⟨B8, B9, B10, B11, B12, B15⟩, B13, B14⟩ := id HB1
  have y9 := B4.2.1
  refine aw_iconst dX8_yard_70 (by decide) ?_
  refine aw_istore2 dX8_yard_71 (by decide) rfl ?_
  refine L_x_rybr (by omega) B4 B14 (fun ct2 HY2 h2 => ?_) (s1 0).toNat 0 ct1 (by have := B14.1.1; omega) (B4.2.2.2.2.2.1.2.2.2.2.2.2.2.trans upA_s) (fun _ _ _ => rfl)
  exact hQ q s1 N1 own1 sz1 im1 ct2 e9 (B1.fa fun x hx _ => funext fun j => h2 x j (by omega)) B2 HY2 ((h2 _ _ (by omega)).trans B5) (B7.frame fun x j hx => h2 x j (fun z => by rw [z.1] at hx; omega)) B14
