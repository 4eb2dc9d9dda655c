set_option maxRecDepth 100000
/-! operations, 26: live -/
/-- what a season leaves -/
noncomputable def lvR (s : Int → Int) (sd : Int) : lvS := seqF (stepF s 4) s 60 0 (s 10) (s, sd, 0, 0, 0, 0, 0)
theorem lvQ0 {s : Int → Int} {sd : Int} (h : PI s) (hs : 0 ≤ sd ∧ sd < 65536) : LQ (s, sd, 0, 0, 0, 0, 0) := ⟨h, hs, by dsimp only; omega, by dsimp only; omega, Or.inl rfl, Or.inl rfl⟩
theorem lvR_in {own : Int → Int} {sz : Int} {im : Int → aIm} {cx : Int → Int → Int} {s : Int → Int} {sd l : Int} (hB : BLK own sz im cx s 4 l 0 (s 10)) (h : PI s) (hs : 0 ≤ sd ∧ sd < 65536) : INQ s (lvR s sd) := by
  obtain ⟨h1, h2, h3, h4, cap, p, h5, h6, h7, h8, h9, h10, h11⟩ := hB
  have := seqF_in (fun hs hq => stepF_in 4 hs hq) h11 h10 (cx l 1).toNat 0 60 (s, sd, 0, 0, 0, 0, 0) (by omega) (by omega) ⟨lvQ0 h hs, sK.rf⟩
  rw [h9] at this
  exact this
theorem L_m_ran {ct : Int → Int → Int} {Q : aPost} {sd : Int} {d kc ks : Nat} (K : ∀ (ct1 : Int → Int → Int), (∀ x, x ≠ 12 → ct1 x = ct x) → (∀ u, 0 ≤ u → u < 3 → ct1 12 u = 0) → AW (mq Q) md_X7_lives d kc ks 30 [some (vR 0), some (vI sd), some (vI 3), none] [] (gM ct1)) : ∀ (r : Nat) (k : Int) (ct1 : Int → Int → Int), k + r = 3 → 0 ≤ k → (∀ x, x ≠ 12 → ct1 x = ct x) → (∀ u, 0 ≤ u → u < k → ct1 12 u = 0) → AW (mq Q) md_X7_lives d kc ks 12 [some (vR 0), some (vI sd), some (vI k), none] [] (gM ct1) := by
  intro r
  induction r with
  | zero =>
    intro k ct1 h1 h2 h3 h4
    have ek : k = 3 := by omega
    subst ek
    refine aw_iload_n dX7_lives_12 rfl ?_
    refine aw_iconst dX7_lives_13 (by decide) ?_
    refine aw_icmpge (tgt := 30) dX7_lives_14 (by decide) (fun h14 => ?_) (fun h14 => ?_)
    · exact K ct1 h3 h4
    · exfalso; omega
  | succ r ih =>
    intro k ct1 h1 h2 h3 h4
    refine aw_iload_n dX7_lives_12 rfl ?_
    refine aw_iconst dX7_lives_13 (by decide) ?_
    refine aw_icmpge (tgt := 30) dX7_lives_14 (by decide) (fun h14 => ?_) (fun h14 => ?_)
    · exfalso; omega
    · refine gm_56 rfl dX7_lives_17 dX7_lives_18 rfl ?_
      refine aw_iload_n dX7_lives_21 rfl ?_
      refine aw_iconst dX7_lives_22 (by decide) ?_
      refine aw_iastore dX7_lives_23 m_a12 (by omega) (by omega) ?_
      refine aw_iinc2r dX7_lives_24 (by decide) (by decide) rfl (by omega) ?_
      refine aw_goto (tgt := 12) dX7_lives_27 (by decide) ?_
      refine ih (k + 1) _ (by omega) (by omega) (fun x hx => by rw [aup_rn hx]; exact h3 x hx) (fun u u0 u1 => ?_)
      by_cases z : u = k
      · subst z; rw [aup_s]
      · rw [aup_n (by omega)]; exact h4 u u0 (by omega)
theorem C_m_lives {ct : Int → Int → Int} {own : Int → Int} {sz : Int} {im : Int → aIm} {cx : Int → Int → Int} {sd l : Int} {Q : aPost} (hF : Fok ct) (hP : PI (ct 1)) (hB : BLK own sz im cx (ct 1) 4 l 0 (ct 1 10)) (hs : 0 ≤ sd ∧ sd < 65536) (hQ : ∀ ct2 : Int → Int → Int, MLV ct ct2 (lvR (ct 1) sd) → Q (.inl none) (gM ct2)) : AMet md_X7_lives 9 0 0 [vR 0, vI sd] (gM ct) Q := by
  refine AMet.go (L := [some (vR 0), some (vI sd), none, none]) mok_X7_lives (Nat.le_of_ble_eq_true rfl) rfl ?_
  refine aw_aload_n dX7_lives_0 rfl ?_
  refine aw_iload_n dX7_lives_1 rfl ?_
  refine p_X7_373_7 rfl dX7_lives_2 m_ob ?_
  refine aw_aload_n dX7_lives_5 rfl ?_
  refine aw_iconst dX7_lives_6 (by decide) ?_
  refine p_X7_380_7 rfl dX7_lives_7 m_ob ?_
  refine aw_iconst dX7_lives_10 (by decide) ?_
  refine aw_istore2 dX7_lives_11 (by decide) rfl ?_
  refine L_m_ran (ct := aup (aup ct 0 29 sd) 0 30 0) (fun ct1 g1 g2 => ?_) 3 0 _ (by decide) (by decide) (fun _ _ => rfl) (fun u u0 u1 => by omega)
  refine aw_iconst dX7_lives_30 (by decide) ?_
  refine aw_istore2 dX7_lives_31 (by decide) rfl ?_
  have hM : MLV ct ct1 (ct 1, sd, 0, 0, 0, 0, 0) := by
    refine ⟨hF.eq (by rw [g1 0 (by decide), aup_n (by omega), aup_n (by omega)]) (by rw [g1 9 (by decide), aup_rn (by decide), aup_rn (by decide)]), by rw [g1 1 (by decide), aup_rn (by decide), aup_rn (by decide)], ⟨?_, ?_, g2 0 (by decide) (by decide), g2 1 (by decide) (by decide), g2 2 (by decide) (by decide)⟩, fun b b0 b1 b9 b11 b12 => by rw [g1 b b12, aup_rn b0, aup_rn b0], fun i i0 i1 i2 i3 i4 i5 => by rw [g1 0 (by decide), aup_n (by omega), aup_n (by omega)]⟩
    · rw [g1 0 (by decide), aup_n (by omega), aup_s]
    · rw [g1 0 (by decide), aup_s]
  have hI : INQ (ct 1) (ct 1, sd, 0, 0, 0, 0, 0) := ⟨lvQ0 hP hs, sK.rf⟩
  have hR := lvR_in hB hP hs
  obtain ⟨h1, h2, h3, h4, cap, p, h5, h6, h7, h8, h9, h10, h11⟩ := hB
  by_cases hm : cx l 1 = 0
  · rw [hm, h9] at h10
    refine HDL_end (c0 := ct) (q := (ct 1, sd, 0, 0, 0, 0, 0)) hM.2.1 (by show ¬ 0 < ct 1 10; omega) (hQ ct1 ?_) _
    have e : lvR (ct 1) sd = (ct 1, sd, 0, 0, 0, 0, 0) := by
      unfold lvR
      rw [← h10]
      exact seqF_end
    rw [e]
    exact hM
  · have hfin : ∀ ct2 : Int → Int → Int, MLV ct ct2 (lvR (ct 1) sd) → Q (.inl none) (gM ct2) := hQ
    have hs0 := h11 0 (by decide) (by omega)
    have pu := p_up h11 (cx l 1).toNat 0 (by omega) (by decide)
    have n9 := hs0.nx
    rw [h9] at hs0 n9
    have hu : lvR (ct 1) sd = seqF (stepF (ct 1) 4) (ct 1) 59 (p (0 + 1)) (ct 1 10) (stepF (ct 1) 4 0 (ct 1, sd, 0, 0, 0, 0, 0)) := by
      unfold lvR
      rw [seqF_st (by omega) rfl, n9.2.1]
    refine M_go (d := 9) (Nat.le_refl _) 4 hs0 (by have := p_up h11 ((cx l 1).toNat - 1) (0 + 1) (by omega) (by decide); omega) hI rfl hM (fun ct2 ov2 hM2 hu2 => ?_) (fun ct2 ov2 hM2 => ?_) _
    · refine M_seq (i0 := 0) (fun hs => M_go (Nat.le_refl _) 4 hs) h11 h10 (Int.le_refl _) h4 (by decide) ((cx l 1).toNat - 1) (0 + 1) 59 _ (lvR (ct 1) sd) ct2 (by omega) (by decide) (by decide) (by omega) (stepF_in 4 hs0 hI) ov2 hM2 hu.symm (fun ct3 e3 hM3 hu3 => ?_) (fun ct3 e3 hM3 => hQ ct3 hM3)
      have e10 := hR.2.1 10 (by omega)
      exact PEL_1 hM3.2.1 (by omega) (fun z => by have := z.1; omega) (HDL_end (c0 := ct) hM3.2.1 (by omega) (hQ ct3 hM3))
    · rw [hu, seqF_ov ov2] at hQ
      exact hQ ct2 hM2
