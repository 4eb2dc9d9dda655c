set_option maxRecDepth 100000
/-! a season is read, BeeYard-/
theorem stepP_cnt {tp : Int → Int} {n : Int} {s N : Int → Int} {t t1 : ST} (h : stepP tp n s N t = .inr t1) : t.2.2.2.2.2 ≤ t1.2.2.2.2.2 ∧ (t.2.2.2.2.2 ≤ 30 → t1.2.2.2.2.2 ≤ 30) := by
  unfold stepP at h
  split at h
  · cases h
  · split at h
    · cases h
    · rename_i hk
      split at h
      · cases h
      · obtain ⟨o, -, h⟩ := bnd_i h
        try dsimp only at h
        split at h
        · have e := Sum.inr.inj h
          rw [← e]
          by_cases z : tW tp n t.1 = 19
          · rw [z, nxtP_cl]
            exact ⟨Int.le_refl _, fun h => h⟩
          · by_cases z2 : tW tp n t.1 = 17 ∨ tW tp n t.1 = 18
            · rw [nxtP_op z2]
              exact ⟨by show _ ≤ t.2.2.2.2.2 + 1; omega, fun h => by show t.2.2.2.2.2 + 1 ≤ 30; omega⟩
            · rw [nxtP_pl z z2]
              exact ⟨by show _ ≤ t.2.2.2.2.2 + 1; omega, fun h => by show t.2.2.2.2.2 + 1 ≤ 30; omega⟩
        · cases h
theorem seasP_cnt {tp : Int → Int} {n : Int} {s N : Int → Int} : ∀ {r : Nat} {t x : ST}, seasP tp n s N r t = .inr x → t.2.2.2.2.2 ≤ x.2.2.2.2.2 ∧ (t.2.2.2.2.2 ≤ 30 → x.2.2.2.2.2 ≤ 30)
  | 0, _, _, h => by cases h
  | r + 1, t, x, h => by
    simp only [seasP] at h
    split at h
    · split at h
      · cases h; exact ⟨Int.le_refl _, fun h => h⟩
      · cases h
    · obtain ⟨t1, e1, h⟩ := bnd_i h
      have a := stepP_cnt e1
      have b := seasP_cnt h
      exact ⟨Int.le_trans a.1 b.1, fun z => b.2 (a.2 z)⟩
theorem L_x_sea {tp : Int → Int} {n : Int} {s N : Int → Int} {d : Nat} {Q : aPost} {own0 : Int → Int} {sz0 : Int} {im0 : Int → aIm} {ct0 : Int → Int → Int} {a l : Int} {X : PF ⊕ ST} (hd : 18 ≤ d) (oa : own0 a = -3) (ob : own0 l = -4) (ot : own0 (ct0 l 0) = -4)
    (hF : ∀ (k pl sz1 : Int) (im1 : Int → aIm) (ct1 : Int → Int → Int), X = .inl (k, pl) → G4 own0 sz0 im0 ct0 sz1 im1 ct1 k pl → Q (.inr (0, 7)) (sz1, im1, ct1))
    (hQ : ∀ (u : ST) (own1 : Int → Int) (sz1 : Int) (im1 : Int → aIm) (ct1 : Int → Int → Int), X = .inr u → RDX sz1 im1 ct1 a tp n u.1 → ct1 a 5 = u.2.2.2.2.2 → FSS own0 a l sz0 im0 ct0 own1 sz1 im1 ct1 → BB own1 sz1 im1 ct1 (sR s u.2.1) 4 l 0 u.2.2.1 → TIs u → Q (.inl none) (sz1, im1, ct1)) :
    ∀ (r : Nat) (p m cnt : Int) (R op own : Int → Int) (sz : Int) (im : Int → aIm) (ct : Int → Int → Int), n - p < r → SEA tp n s N (p, R, m, 0, op, cnt) = X → ZR own sz im ct a s N tp n p → ct a 5 = cnt → TIs (p, R, m, 0, op, cnt) → FSS own0 a l sz0 im0 ct0 own sz im ct → BB own sz im ct (sR s R) 4 l 0 m → AW (mq Q) md_X8_season d (3 * (cN X - cnt)).toNat (130 * (cN X - cnt)).toNat 0 [some (vR a), some (vR 10), some (vR l)] [] (sz, im, ct) := by
  intro r
  induction r with
  | zero =>
    intro p m cnt R op own sz im ct hr hX Z
    have := Z.1.2.1
    omega
  | succ r ih =>
    intro p m cnt R op own sz im ct hr hX Z hc5 hT hFS hB
    have HR := Z.1
    have ha := HR.1.1.1
    have hp := HR.2.1
    have e3 := HR.2.2.2.2.1
    have oa1 := Z.2.2.2.1
    have ob1 := hB.2.1
    have hc := Z.2.2.2.2.1.1
    have hPq := Z.2.2.2.2.2.2.2.1.1
    have h1 := hPq.1.1
    refine aw_aload_n dX8_season_0 rfl ?_
    refine g_X8_32_8 rfl dX8_season_1 ha ?_
    rw [e3]
    refine aw_ifeq (tgt := 17) dX8_season_4 (by decide) (fun h4 => ?_) (fun h4 => ?_)
    · have eX : X = .inr (p, R, m, 0, op, cnt) := hX.symm.trans ((SEA_end h4).trans (if_pos rfl))
      refine aw_ret dX8_season_17 rfl ?_
      exact hQ (p, R, m, 0, op, cnt) own sz im ct eX HR hc5 hFS hB hT
    · obtain ⟨g1, g2⟩ := stX_gd (tp := tp) (n := n) (N := N) hc h1 3 (p, R, m, 0, op, cnt) hp.2 rfl hT (Or.inl h4) (Or.inr rfl)
      obtain ⟨Y, eY⟩ : ∃ z, stX tp n s N 3 (p, R, m, 0, op, cnt) = z := ⟨_, rfl⟩
      rw [eY] at g1 g2
      have hT2 : 0 ≤ cnt ∧ cnt ≤ 30 := hT.2.2.1
      have hcY : cnt ≤ cN Y ∧ cN Y ≤ cN X := by
        cases Y with
        | inl e9 =>
          have := g1 e9 rfl
          rw [hX] at this
          rw [this]
          exact ⟨hT2.2, Int.le_refl _⟩
        | inr v =>
          obtain ⟨k1, k2, k3, k4, k5, k6⟩ := g2 v rfl
          refine ⟨Int.le_of_lt k6, ?_⟩
          rw [hX] at k1
          cases X with
          | inl e9 => exact k3.2.2.1.2
          | inr x => exact (seasP_cnt k1.symm).1
      refine aw_aload_n dX8_season_7 rfl ?_
      refine aw_aload_n dX8_season_8 rfl ?_
      refine aw_aload_n dX8_season_9 rfl ?_
      refine aw_iconst dX8_season_10 (by decide) ?_
      refine c_X8_229a (kc1 := (3 * (cN Y - cnt)).toNat) (ks1 := (130 * (cN Y - cnt)).toNat) (kc2 := (3 * (cN X - cN Y)).toNat) (ks2 := (130 * (cN X - cN Y)).toNat) (by omega) (by omega) rfl dX8_season_11 ha (Nat.le_of_ble_eq_true rfl) (by omega) (C_x_stepD (tp := tp) (n := n) (s := s) (N := N) 3 (p, R, m, 0, op, cnt) Y Z hc5 rfl hT (Or.inl h4) (Or.inr rfl) hB eY (fun k9 pl9 sz9 im9 ct9 e9 q9 => ?_) (fun v own9 sz9 im9 ct9 e9 HR9 h59 F9 B9 => ?_))
      · have eX := g1 _ e9
        rw [hX] at eX
        exact aK_x (ax_out rfl (hF _ _ _ _ _ eX (hFS.g4 oa ob ot q9)))
      obtain ⟨k1, k2, k3, k4, k5, k6⟩ := g2 v e9
      rw [hX] at k1
      rw [e9]
      refine aK_v ?_
      refine aw_goto (tgt := 0) dX8_season_14 (by decide) ?_
      obtain ⟨p1, R1, m1, d1, op1, cnt1⟩ := v
      have hd1 : d1 = 0 := k2.2.1
      subst hd1
      have k49 : p < p1 := k4
      exact ih p1 m1 cnt1 R1 op1 own9 sz9 im9 ct9 (by omega) k1.symm (Z.tg4 F9.1 (fun x hx => ⟨(F9.2.1 x hx).1, (F9.2.1 x hx).2.1, fun x3 x4 => (F9.2.1 x hx).2.2 (fun z => x3 (by rw [z]; exact oa1)) (fun z => x4 (by rw [z]; exact ob1)) (fun z => x4 (by rw [z]; exact hB.2.2.1))⟩) HR9) h59 k3 (hFS.trans F9) B9
theorem C_x_sea {own : Int → Int} {sz : Int} {im : Int → aIm} {ct : Int → Int → Int} {a l n : Int} {s N tp R : Int → Int} {X : PF ⊕ ST} {Q : aPost} (Z : ZR own sz im ct a s N tp n 0) (hc5 : ct a 5 = 0) (hB : BB own sz im ct (sR s R) 4 l 0 0) (hX : SEA tp n s N (0, R, 0, 0, fun _ => 0, 0) = X)
    (hF : ∀ (k pl sz1 : Int) (im1 : Int → aIm) (ct1 : Int → Int → Int), X = .inl (k, pl) → G4 own sz im ct sz1 im1 ct1 k pl → Q (.inr (0, 7)) (sz1, im1, ct1))
    (hQ : ∀ (u : ST) (own1 : Int → Int) (sz1 : Int) (im1 : Int → aIm) (ct1 : Int → Int → Int), X = .inr u → ct1 a 5 = u.2.2.2.2.2 → FSS own a l sz im ct own1 sz1 im1 ct1 → BB own1 sz1 im1 ct1 (sR s u.2.1) 4 l 0 u.2.2.1 → TIs u → Q (.inl none) (sz1, im1, ct1)) : AMet md_X8_season 18 90 3900 [vR a, vR 10, vR l] (sz, im, ct) Q := by
  refine AMet.go (L := [some (vR a), some (vR 10), some (vR l)]) mok_X8_season (Nat.le_of_ble_eq_true rfl) rfl ?_
  have hT : TIs (0, R, 0, 0, (fun _ => 0 : Int → Int), 0) := ⟨Int.le_refl _, ⟨Int.le_refl _, (by decide : (0 : Int) ≤ 3)⟩, ⟨Int.le_refl _, (by decide : (0 : Int) ≤ 30)⟩, (by decide : (0 : Int) + 0 ≤ 2 * 0)⟩
  have hcX : cN X ≤ 30 := by
    cases X with
    | inl e => exact Int.le_refl _
    | inr u => exact (seasP_cnt hX).2 (show (0 : Int) ≤ 30 by decide)
  refine AW.widen (kc' := (3 * (cN X - 0)).toNat) (ks' := (130 * (cN X - 0)).toNat) (by omega) (by omega) ?_
  exact L_x_sea (by omega) Z.2.2.2.1 hB.2.1 hB.2.2.1 hF (fun u own1 sz1 im1 ct1 e HR1 h5 F1 B1 T1 => hQ u own1 sz1 im1 ct1 e h5 F1 B1 T1) (n.toNat + 1) 0 0 0 R (fun _ => 0) own sz im ct (by have := Z.1.2.1; omega) hX Z hc5 hT FSS.rf hB
