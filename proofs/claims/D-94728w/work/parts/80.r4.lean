set_option maxRecDepth 100000
/-! P4: a yard that is being read: lines and hives come in -/
theorem YI_addD {s : Int → Int} {m : Int} (H : YI s) (h8 : s 2 < 8) (hm : m = -1 ∨ (0 ≤ m ∧ m < s 1)) : YI (addD s m) := by
  obtain ⟨⟨p0, p3, pk, pq, ⟨pB, pU⟩, ps⟩, ⟨yB, yU⟩, ⟨y3, y10, y11, y12⟩, yS, yz⟩ := id H
  have h2 := pq.1.2
  have r : ∀ i, i = 0 ∨ i = 1 ∨ (3 ≤ i ∧ i ≤ 12) ∨ 64 ≤ i → addD s m i = s i := fun i hi => addD_n (by omega) (by omega) (by omega) (by omega)
  have e0 := r 0 (by omega)
  have e1 := r 1 (by omega)
  have eH : ∀ k, 0 ≤ k → hoK (addD s m) k = hoK s k := fun k k0 => by
    unfold hoK
    rw [r (64 + 198 * k) (by omega)]
    refine isum_congr fun i i0 i1 => ?_
    show sv 0 _ = sv 0 _
    unfold sh
    rw [r _ (by omega)]
  refine ⟨⟨by rw [e0]; exact p0, by rw [r 3 (by omega)]; exact p3, fun k k0 k1 => ?_, PQ_addD pq h8 hm, ?_, by rw [r 11 (by omega), r 12 (by omega), e1]; exact ps⟩, ?_, by rw [r 3 (by omega), r 10 (by omega), r 11 (by omega), r 12 (by omega)]; exact ⟨y3, y10, y11, y12⟩, ?_, fun i i0 i1 => ?_⟩
  · rw [e0] at k1
    have hk := pk k k0 k1
    unfold PH at hk ⊢
    rw [r (64 + 198 * k) (by omega), r (64 + 198 * k + 1) (by omega), r (64 + 198 * k + 2) (by omega), r (64 + 198 * k + 3) (by omega), r (64 + 198 * k + 4) (by omega), r (64 + 198 * k + 5) (by omega), e1]
    refine ⟨hk.1, fun i i0 i1 => ?_, hk.2.2⟩
    unfold sh
    rw [r _ (by omega)]
    exact hk.2.1 i i0 i1
  · rw [sumB_congr e0 (fun k k0 k1 => r _ (by omega)), sumU_congr e0 (fun k k0 k1 => r _ (by omega)), r 11 (by omega), r 3 (by omega)]
    exact ⟨pB, pU⟩
  · rw [sumB_congr e0 (fun k k0 k1 => r _ (by omega)), sumU_congr e0 (fun k k0 k1 => r _ (by omega)), e0]
    exact ⟨yB, yU⟩
  · rw [r 4 (by omega), e0, yS]
    exact isum_congr fun k k0 k1 => (eH k k0).symm
  · rw [e0] at i0
    rw [r i (by omega)]
    exact yz i i0 i1
theorem addQ_h {s : Int → Int} {l m b h : Int} (h0 : 0 ≤ h) (h8 : s 1 < 8) : addQ s l m b h (67 + 198 * h) = s 1 := by
  unfold addQ
  rw [upA_n (by omega), upA_n (by omega), upA_n (by omega), upA_n (by omega), upA_n (by omega), upA_n (by omega), if_neg (by omega), upA_s]
theorem YI_addQ {s : Int → Int} {l m b h : Int} (H : YI s) (h8 : s 1 < 8) (hh : h = -1 ∨ (0 ≤ h ∧ h < s 0)) (hl : 0 ≤ l ∧ l ≤ 16) (hm : m = -1 ∨ (0 ≤ m ∧ m < s 1)) (hb : b = -1 ∨ (0 ≤ b ∧ b < s 2)) : YI (addQ s l m b h) := by
  obtain ⟨⟨p0, p3, pk, pq, ⟨pB, pU⟩, ps⟩, ⟨yB, yU⟩, ⟨y3, y10, y11, y12⟩, yS, yz⟩ := id H
  have h2 := pq.1.1
  have r : ∀ i, i = 0 ∨ (2 ≤ i ∧ i ≤ 12) ∨ (64 ≤ i ∧ (h = -1 ∨ i ≠ 67 + 198 * h)) → addQ s l m b h i = s i := fun i hi => addQ_n (by omega) (by omega) (by omega) (by omega)
  have e0 := r 0 (by omega)
  have e1 : addQ s l m b h 1 = s 1 + 1 := upA_s
  have eH : ∀ k, 0 ≤ k → k < s 0 → hoK (addQ s l m b h) k = hoK s k := fun k k0 k1 => by
    have hk := (pk k k0 k1).1
    unfold hoK
    rw [r (64 + 198 * k) (by omega)]
    refine isum_congr fun i i0 i1 => ?_
    show sv 0 _ = sv 0 _
    unfold sh
    unfold nF at i1
    rw [r _ (by rcases (by omega : h < k ∨ h = k ∨ k < h) with z | z | z <;> omega)]
  refine ⟨⟨by rw [e0]; exact p0, by rw [r 3 (by omega)]; exact p3, fun k k0 k1 => ?_, PQ_addQ pq h8 (by omega) hl hm hb, ?_, by rw [r 11 (by omega), r 12 (by omega), e1]; omega⟩, ?_, by rw [r 3 (by omega), r 10 (by omega), r 11 (by omega), r 12 (by omega)]; exact ⟨y3, y10, y11, y12⟩, ?_, fun i i0 i1 => ?_⟩
  · rw [e0] at k1
    have hk := pk k k0 k1
    have hk1 := hk.1
    unfold PH at hk ⊢
    rw [r (64 + 198 * k) (by omega), r (64 + 198 * k + 1) (by omega), r (64 + 198 * k + 2) (by omega), r (64 + 198 * k + 4) (by omega), r (64 + 198 * k + 5) (by omega), e1]
    refine ⟨hk.1, fun i i0 i1 => ?_, hk.2.2.1, hk.2.2.2.1, ?_, hk.2.2.2.2.2⟩
    · unfold sh
      rw [r _ (by rcases (by omega : h < k ∨ h = k ∨ k < h) with z | z | z <;> omega)]
      exact hk.2.1 i i0 i1
    · by_cases z : h = k
      · subst z
        rw [show 64 + 198 * h + 3 = 67 + 198 * h by omega, addQ_h k0 h8]
        omega
      · rw [r (64 + 198 * k + 3) (by omega)]
        have := hk.2.2.2.2.1
        omega
  · rw [sumB_congr e0 (fun k k0 k1 => r _ (by omega)), sumU_congr e0 (fun k k0 k1 => r _ (by omega)), r 11 (by omega), r 3 (by omega)]
    exact ⟨pB, pU⟩
  · rw [sumB_congr e0 (fun k k0 k1 => r _ (by omega)), sumU_congr e0 (fun k k0 k1 => r _ (by omega)), e0]
    exact ⟨yB, yU⟩
  · rw [r 4 (by omega), e0, yS]
    exact isum_congr fun k k0 k1 => (eH k k0 (by omega)).symm
  · rw [e0] at i0
    rw [r i (by omega)]
    exact yz i i0 i1
/-! the same in BeeYard's heap -/
theorem YR.lo {own : Int → Int} {y sz : Int} {im : Int → aIm} {ct : Int → Int → Int} {ya dd : Int} {s s' N N' : Int → Int} (H : YR own y sz im ct ya s dd N) (hr : ∀ i, i = 0 ∨ (4 ≤ i ∧ i ≤ 12) ∨ 64 ≤ i → s' i = s i) (hN : ∀ k, 0 ≤ k → k < s 0 → N' k = N k) : YR own y sz im ct ya s' dd N' := by
  obtain ⟨h1, h2, h3, h4, h5, ⟨a1, a2, a3, a4, a5, a6, a7, a8⟩, ⟨w1, w2⟩, h6⟩ := H
  have s0 := hr 0 (by omega)
  refine ⟨h1, h2, h3, h4, by rw [s0]; exact h5, ⟨?_, a2, ?_, ?_, ?_, ?_, ?_, ?_⟩, ⟨?_, fun z => ?_⟩, fun j j0 j1 => ?_⟩
  · rw [s0]; exact a1
  · rw [hr _ (by omega)]; exact a3
  · rw [hr _ (by omega)]; exact a4
  · rw [hr _ (by omega)]; exact a5
  · rw [hr _ (by omega)]; exact a6
  · rw [hr _ (by omega)]; exact a7
  · rw [hr _ (by omega)]; exact a8
  · rw [hr _ (by omega)]; exact w1
  · rw [hr _ (by omega)]; exact w2 (by rw [← hr _ (by omega)]; exact z)
  · rw [s0] at j1
    rw [hN j j0 j1]
    exact (h6 j j0 j1).row fun i i0 i1 => hr i (by omega)
theorem YR.more {own : Int → Int} {y sz : Int} {im : Int → aIm} {ct : Int → Int → Int} {ya ha hv x : Int} {s s' N : Int → Int} {dd : Int} (H : YR own y sz im ct ya s dd N) (hy : 0 ≤ y) (h4 : s 0 < 4) (eh : (im ya).2.2 1 = ha) (Yh : YH own (10 * y + s 0) sz im ct hv s' (64 + 198 * s 0) x)
    (hr : ∀ i, i ≠ 0 → (i < 64 + 198 * s 0 ∨ 262 + 198 * s 0 ≤ i) → s' i = s i) (h0 : s' 0 = s 0 + 1) : YR own y sz im (aup (aup ct ha (s 0) hv) ya 2 (s 0 + 1)) ya s' dd (upA N (s 0) x) := by
  obtain ⟨h1, h2, h3, h5, h6, ⟨a1, a2, a3, a4, a5, a6, a7, a8⟩, ⟨w1, w2⟩, h7⟩ := H
  rw [eh] at h3 h5
  have ne : ya ≠ ha := aob_ne h1 h3 (by decide)
  have e2 : ∀ j, j ≠ 2 → aup (aup ct ha (s 0) hv) ya 2 (s 0 + 1) ya j = ct ya j := fun j hj => by rw [aup_n (by omega), aup_rn ne]
  have fr : ∀ t, t < 10 * y + 9 → ∀ x j, own x = t → aup (aup ct ha (s 0) hv) ya 2 (s 0 + 1) x j = ct x j := fun t ht x j hx => by
    rw [aup_rn (fun z => by rw [z] at hx; omega), aup_rn (fun z => by rw [z] at hx; omega)]
  refine ⟨h1, h2, by rw [eh]; exact h3, by rw [eh]; exact h5, by rw [h0]; omega, ⟨?_, ?_, ?_, ?_, ?_, ?_, ?_, ?_⟩, ⟨?_, fun z => ?_⟩, fun j j0 j1 => ?_⟩
  · rw [aup_s, h0]
  · rw [e2 _ (by decide)]; exact a2
  · rw [e2 _ (by decide), hr _ (by decide) (by omega)]; exact a3
  · rw [e2 _ (by decide), hr _ (by decide) (by omega)]; exact a4
  · rw [e2 _ (by decide), hr _ (by decide) (by omega)]; exact a5
  · rw [e2 _ (by decide), hr _ (by decide) (by omega)]; exact a6
  · rw [e2 _ (by decide), hr _ (by decide) (by omega)]; exact a7
  · rw [e2 _ (by decide), hr _ (by decide) (by omega)]; exact a8
  · rw [e2 _ (by decide), hr _ (by decide) (by omega)]; exact w1
  · rw [e2 _ (by decide), hr 11 (by decide) (by omega)]; exact w2 (by rw [← hr 12 (by decide) (by omega)]; exact z)
  · rw [eh, aup_rn (Ne.symm ne)]
    by_cases q : j = s 0
    · subst q
      rw [aup_s, upA_s]
      exact Yh.frame (fr _ (by omega))
    · rw [aup_n (by omega), upA_n q]
      have g7 := h7 j j0 (by omega)
      rw [eh] at g7
      exact (g7.frame (fr _ (by omega))).row fun i i0 i1 => hr i (by omega) (by omega)
theorem LR.nm {own : Int → Int} {sz : Int} {im : Int → aIm} {ct : Int → Int → Int} {la : Int} {s N N' : Int → Int} (H : LR own sz im ct la s N) (h : ∀ i, 4 ≤ i → N' i = N i) : LR own sz im ct la s N' := by
  obtain ⟨h1, h2, h3, h4, h5, h6, h7⟩ := H
  exact ⟨h1, h2, h3, h4, h5, fun q q0 q1 => by rw [h _ (by omega)]; exact h6 q q0 q1, fun d d0 d1 => by rw [h _ (by omega)]; exact h7 d d0 d1⟩
/-- the lines' arrays, as a new one has them -/
theorem LR_addD {own : Int → Int} {sz : Int} {im : Int → aIm} {ct : Int → Int → Int} {la m x w : Int} {s N : Int → Int} (H : LR own sz im ct la s N) (L : LNA sz im la (la + 1)) (h8 : s 2 < 8) :
    LR own sz im (aup (aup (aup (aup (aup (aup ct (la + 1) (8 + s 2) x) (la + 2) (8 + s 2) m) (la + 3) (8 + s 2) (-1)) (la + 4) (8 + s 2) (s 13)) (la + 6) w (8 + s 2)) la 7 (s 2 + 1)) la (addD s m) (upA N (4 + s 2) x) := by
  obtain ⟨h1, h2, h3, ⟨h4, h4b⟩, h5, h6, h7⟩ := H
  have i0 : (im la).2.2 0 = la + 1 := by rw [L.2.1 0 (by decide) (by decide)]; omega
  have i1 : (im la).2.2 1 = la + 2 := by rw [L.2.1 1 (by decide) (by decide)]; omega
  have i2 : (im la).2.2 2 = la + 3 := by rw [L.2.1 2 (by decide) (by decide)]; omega
  have i3 : (im la).2.2 3 = la + 4 := by rw [L.2.1 3 (by decide) (by decide)]; omega
  have i4 : (im la).2.2 4 = la + 5 := by rw [L.2.1 4 (by decide) (by decide)]; omega
  rw [i0, i1, i2, i3, i4] at h6
  rw [i0, i1, i2, i3] at h7
  have r : ∀ i, i ≠ 46 + 2 * s 2 → i ≠ 47 + 2 * s 2 → i ≠ 13 → i ≠ 2 → addD s m i = s i := fun i b c d e => addD_n b c d e
  have e1 := r 1 (by omega) (by omega) (by decide) (by decide)
  have e2 : addD s m 2 = s 2 + 1 := upA_s
  have em : addD s m (46 + 2 * s 2) = m := by unfold addD; rw [upA_n (by omega), upA_n (by omega), upA_n (by omega), upA_s]
  have et : addD s m (47 + 2 * s 2) = s 13 := by unfold addD; rw [upA_n (by omega), upA_n (by omega), upA_s]
  refine ⟨h1, h2, h3, ⟨?_, ?_⟩, by rw [e1, e2]; omega, fun q q0 q1 => ?_, fun d d0 d1 => ?_⟩
  · rw [aup_n (by omega), aup_rn (by omega), aup_rn (by omega), aup_rn (by omega), aup_rn (by omega), aup_rn (by omega), e1]; exact h4
  · rw [aup_s, e2]
  · rw [e1] at q1
    obtain ⟨g1, g2, g3, g4, g5⟩ := h6 q q0 q1
    rw [i0, i1, i2, i3, i4, r (15 + 4 * q) (by omega) (by omega) (by omega) (by omega), r (16 + 4 * q) (by omega) (by omega) (by omega) (by omega), r (17 + 4 * q) (by omega) (by omega) (by omega) (by omega), r (14 + 4 * q) (by omega) (by omega) (by omega) (by omega), upA_n (by omega)]
    refine ⟨?_, ?_, ?_, ?_, ?_⟩
    · (repeat rw [aup_n (by omega)]); exact g1
    · (repeat rw [aup_n (by omega)]); exact g2
    · (repeat rw [aup_n (by omega)]); exact g3
    · (repeat rw [aup_n (by omega)]); exact g4
    · (repeat rw [aup_n (by omega)]); exact g5
  · rw [e2] at d1
    rw [i0, i1, i2, i3]
    by_cases z : d = s 2
    · subst z
      rw [em, et, upA_s]
      refine ⟨?_, ?_, ?_, ?_⟩
      · repeat (first | rw [aup_s] | rw [aup_n (by omega)])
      · repeat (first | rw [aup_s] | rw [aup_n (by omega)])
      · repeat (first | rw [aup_s] | rw [aup_n (by omega)])
      · repeat (first | rw [aup_s] | rw [aup_n (by omega)])
    · obtain ⟨g1, g2, g3, g4⟩ := h7 d d0 (by omega)
      rw [r (46 + 2 * d) (by omega) (by omega) (by omega) (by omega), r (47 + 2 * d) (by omega) (by omega) (by omega) (by omega), upA_n (by omega)]
      refine ⟨?_, ?_, ?_, ?_⟩
      · (repeat rw [aup_n (by omega)]); exact g1
      · (repeat rw [aup_n (by omega)]); exact g2
      · (repeat rw [aup_n (by omega)]); exact g3
      · (repeat rw [aup_n (by omega)]); exact g4
theorem LR_addQ {own : Int → Int} {sz : Int} {im : Int → aIm} {ct : Int → Int → Int} {la l m b h x w : Int} {s N : Int → Int} (H : LR own sz im ct la s N) (L : LNA sz im la (la + 1)) (h8 : s 1 < 8) (hh : h = -1 ∨ 0 ≤ h) :
    LR own sz im (aup (aup (aup (aup (aup (aup (aup ct (la + 5) (s 1) l) (la + 1) (s 1) x) (la + 2) (s 1) m) (la + 3) (s 1) (if b = -1 then -1 else 8 + b)) (la + 4) (s 1) (s 13)) (la + 6) w (s 1)) la 6 (s 1 + 1)) la (addQ s l m b h) (upA N (12 + s 1) x) := by
  obtain ⟨h1, h2, h3, ⟨h4, h4b⟩, h5, h6, h7⟩ := H
  have i0 : (im la).2.2 0 = la + 1 := by rw [L.2.1 0 (by decide) (by decide)]; omega
  have i1 : (im la).2.2 1 = la + 2 := by rw [L.2.1 1 (by decide) (by decide)]; omega
  have i2 : (im la).2.2 2 = la + 3 := by rw [L.2.1 2 (by decide) (by decide)]; omega
  have i3 : (im la).2.2 3 = la + 4 := by rw [L.2.1 3 (by decide) (by decide)]; omega
  have i4 : (im la).2.2 4 = la + 5 := by rw [L.2.1 4 (by decide) (by decide)]; omega
  rw [i0, i1, i2, i3, i4] at h6
  rw [i0, i1, i2, i3] at h7
  have r : ∀ i, (i < 14 + 4 * s 1 ∨ 18 + 4 * s 1 ≤ i) → i ≠ 13 → i ≠ 1 → i < 64 → addQ s l m b h i = s i := fun i c d e f => addQ_n c d e (by omega)
  have e1 : addQ s l m b h 1 = s 1 + 1 := upA_s
  have e2 := r 2 (by omega) (by decide) (by decide) (by decide)
  have el : addQ s l m b h (14 + 4 * s 1) = l := by unfold addQ; rw [upA_n (by omega), upA_n (by omega), upA_n (by omega), upA_n (by omega), upA_n (by omega), upA_s]
  have em : addQ s l m b h (15 + 4 * s 1) = m := by unfold addQ; rw [upA_n (by omega), upA_n (by omega), upA_n (by omega), upA_n (by omega), upA_s]
  have eb : addQ s l m b h (16 + 4 * s 1) = b := by unfold addQ; rw [upA_n (by omega), upA_n (by omega), upA_n (by omega), upA_s]
  have et : addQ s l m b h (17 + 4 * s 1) = s 13 := by unfold addQ; rw [upA_n (by omega), upA_n (by omega), upA_s]
  refine ⟨h1, h2, h3, ⟨?_, ?_⟩, by rw [e1, e2]; omega, fun q q0 q1 => ?_, fun d d0 d1 => ?_⟩
  · rw [aup_s, e1]
  · rw [aup_n (by omega), aup_rn (by omega), aup_rn (by omega), aup_rn (by omega), aup_rn (by omega), aup_rn (by omega), aup_rn (by omega), e2]; exact h4b
  · rw [e1] at q1
    rw [i0, i1, i2, i3, i4]
    by_cases z : q = s 1
    · subst z
      rw [el, em, eb, et, upA_s]
      refine ⟨?_, ?_, ?_, ?_, ?_⟩
      · repeat (first | rw [aup_s] | rw [aup_n (by omega)])
      · repeat (first | rw [aup_s] | rw [aup_n (by omega)])
      · repeat (first | rw [aup_s] | rw [aup_n (by omega)])
      · repeat (first | rw [aup_s] | rw [aup_n (by omega)])
      · repeat (first | rw [aup_s] | rw [aup_n (by omega)])
    · obtain ⟨g1, g2, g3, g4, g5⟩ := h6 q q0 (by omega)
      rw [r (15 + 4 * q) (by omega) (by omega) (by omega) (by omega), r (16 + 4 * q) (by omega) (by omega) (by omega) (by omega), r (17 + 4 * q) (by omega) (by omega) (by omega) (by omega), r (14 + 4 * q) (by omega) (by omega) (by omega) (by omega), upA_n (by omega)]
      refine ⟨?_, ?_, ?_, ?_, ?_⟩
      · (repeat rw [aup_n (by omega)]); exact g1
      · (repeat rw [aup_n (by omega)]); exact g2
      · (repeat rw [aup_n (by omega)]); exact g3
      · (repeat rw [aup_n (by omega)]); exact g4
      · (repeat rw [aup_n (by omega)]); exact g5
  · rw [e2] at d1
    obtain ⟨g1, g2, g3, g4⟩ := h7 d d0 d1
    rw [i0, i1, i2, i3, r (46 + 2 * d) (by omega) (by omega) (by omega) (by omega), r (47 + 2 * d) (by omega) (by omega) (by omega) (by omega), upA_n (by omega)]
    refine ⟨?_, ?_, ?_, ?_⟩
    · (repeat rw [aup_n (by omega)]); exact g1
    · (repeat rw [aup_n (by omega)]); exact g2
    · (repeat rw [aup_n (by omega)]); exact g3
    · (repeat rw [aup_n (by omega)]); exact g4
