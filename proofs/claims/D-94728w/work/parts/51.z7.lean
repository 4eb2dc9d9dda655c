/-! H7: the bounds go on to hold -/
theorem PI.brK {s : Int → Int} {k t : Int} (h : PI s) (k0 : 0 ≤ k) (k1 : k < s 0) (ht : 0 ≤ t) : PI (brK s k t) := by
  have h0 := h.1
  have hn := (h.2.2.1 k k0 k1).1
  have hr := (h.2.2.1 k k0 k1).2.1
  refine h.flds (fun i i0 i1 i2 => brK_o k0 hn (by omega)) (fun j i j0 j1 i0 i1 => ?_) (fun j j0 j1 => ?_)
  · by_cases e : j = k
    · subst e; exact brK_o j0 hn (by omega)
    · exact brK_o k0 hn (by omega)
  · by_cases e : j = k
    · subst e
      intro i i0 i1
      rw [brK_f j0 i0]
      exact (stor_rg (by unfold nF; omega) hr ht).1 i i0 i1
    · have hj := h.2.2.1 j j0 j1
      intro i i0 i1
      unfold sh
      rw [brK_o k0 hn (by have := hj.1; omega)]
      exact hj.2.1 i i0 i1
theorem PI.haK {s : Int → Int} {k f : Int} (h : PI s) (k0 : 0 ≤ k) (k1 : k < s 0) (f0 : 0 ≤ f) (f1 : f < s (64 + 198 * k)) : PI (haK s k f) := by
  have h0 := h.1
  have hn := (h.2.2.1 k k0 k1).1
  have hr := (h.2.2.1 k k0 k1).2.1
  refine h.flds (fun i i0 i1 i2 => haK_o k0 f0 f1 hn.2 (by omega)) (fun j i j0 j1 i0 i1 => ?_) (fun j j0 j1 => ?_)
  · by_cases e : j = k
    · subst e; exact haK_o j0 f0 f1 hn.2 (by omega)
    · exact haK_o k0 f0 f1 hn.2 (by omega)
  · by_cases e : j = k
    · subst e
      intro i i0 i1
      rw [haK_f j0 i0]
      exact harC_rg hr i i0 i1
    · have hj := h.2.2.1 j j0 j1
      intro i i0 i1
      unfold sh
      rw [haK_o k0 f0 f1 hn.2 (by have := hj.1; omega)]
      exact hj.2.1 i i0 i1
theorem isum_le {g g' : Int → Int} {B : Int} : ∀ {n : Nat}, (∀ i : Int, 0 ≤ i → i < n → g' i ≤ g i + B) → isum g' n ≤ isum g n + B * n
  | 0, _ => by simp [isum]
  | n + 1, h => by
    have h1 := isum_le (n := n) fun i h0 h1 => h i h0 (by omega)
    have h2 := h n (by omega) (by omega)
    simp only [isum]
    have : B * ((n + 1 : Nat) : Int) = B * n + B := by rw [Int.natCast_add, Int.mul_add]; simp
    omega
theorem paF_row {s : Int → Int} (h : PD s) {j : Nat} : ∀ {k : Nat}, j < k → (k : Int) ≤ s 0 → ∀ i, 64 + 198 * (j : Int) ≤ i → i < 64 + 198 * (j : Int) + 198 → paF k s i = dyK (paF j s) (64 + 198 * j) (laK (paF j s) j) i
  | 0, hj, _, _, _, _ => by omega
  | k + 1, hj, hk, i, i0, i1 => by
    show paK (paF k s) k i = _
    by_cases e : j = k
    · subst e
      unfold paK
      rw [upA_n (by omega), upA_n (by omega), upA_n (by omega)]
    · have hn := (h.2.1 k (by omega) (by omega)).1
      rw [← (paF_lo h (k := k) (by omega)).2 (64 + 198 * k) (by omega)] at hn
      rw [paK_o (by omega) hn (by omega)]
      exact paF_row h (by omega) (by omega) i i0 i1
/-- what a day leaves of hive j -/
theorem paF_hive {s : Int → Int} (h : PD s) {j k : Nat} (hj : j < k) (hk : (k : Int) ≤ s 0) : paF k s (64 + 198 * j) = s (64 + 198 * j) ∧ rgF (s (64 + 198 * j)) (sh (64 + 198 * j) (paF k s)) ∧ (0 ≤ paF k s (64 + 198 * j + 1) ∧ paF k s (64 + 198 * j + 1) ≤ s (64 + 198 * j + 1) + 192) ∧ (0 ≤ paF k s (64 + 198 * j + 2) ∧ paF k s (64 + 198 * j + 2) ≤ 9) ∧
    paF k s (64 + 198 * j + 3) = s (64 + 198 * j + 3) ∧ paF k s (64 + 198 * j + 4) = s (64 + 198 * j + 4) ∧ paF k s (64 + 198 * j + 5) = s (64 + 198 * j + 5) := by
  have hr := paF_row h hj hk
  have lo := (paF_lo h (k := j) (by omega)).2
  obtain ⟨p1, p2, p3, p4, p5⟩ := h.2.1 j (by omega) (by omega)
  have e0 := lo (64 + 198 * j) (by omega)
  have e1 := lo (64 + 198 * j + 1) (by omega)
  have e2 := lo (64 + 198 * j + 2) (by omega)
  have rg : rgF (paF j s (64 + 198 * j)) (sh (64 + 198 * j) (paF j s)) := by
    rw [e0]
    intro i i0 i1
    unfold sh
    rw [lo _ (by omega)]
    exact p2 i i0 i1
  have cb := dCame_bd (n := paF j s (64 + 198 * j)) (c := sh (64 + 198 * j) (paF j s)) (by omega)
  have eb := dEat_bd (n := paF j s (64 + 198 * j)) (c := sh (64 + 198 * j) (paF j s)) (b := paF j s (64 + 198 * j + 1)) (u := paF j s (64 + 198 * j + 2)) (y := laK (paF j s) j) (by omega) rg (by omega) (by omega)
  have db : dB (paF j s (64 + 198 * j)) (sh (64 + 198 * j) (paF j s)) (paF j s (64 + 198 * j + 1)) (paF j s (64 + 198 * j + 2)) (laK (paF j s) j) = paF j s (64 + 198 * j + 1) + dCame (paF j s (64 + 198 * j)) (sh (64 + 198 * j) (paF j s)) - min (10 * (dEat (paF j s (64 + 198 * j)) (sh (64 + 198 * j) (paF j s)) (paF j s (64 + 198 * j + 1)) (paF j s (64 + 198 * j + 2)) (laK (paF j s) j)).2) (paF j s (64 + 198 * j + 1) + dCame (paF j s (64 + 198 * j)) (sh (64 + 198 * j) (paF j s))) := rfl
  refine ⟨?_, fun i i0 i1 => ?_, ?_, ?_, ?_, ?_, ?_⟩
  · rw [hr _ (by omega) (by omega), dyK_o (by omega) (by omega) (by omega) (by omega)]; exact e0
  · have q : sh (64 + 198 * j) (paF k s) i = sh (64 + 198 * j) (dyK (paF j s) (64 + 198 * j) (laK (paF j s) j)) i := hr _ (by omega) (by omega)
    rw [q, dyK_f i0]
    have := eb.1
    rw [e0] at this
    rw [e0]
    exact this i i0 i1
  · rw [hr _ (by omega) (by omega)]
    unfold dyK
    rw [upA_n (by omega), upA_s, db]
    omega
  · rw [hr _ (by omega) (by omega)]
    unfold dyK
    rw [upA_s]
    unfold dH
    omega
  · rw [hr _ (by omega) (by omega), dyK_o (by omega) (by omega) (by omega) (by omega)]; exact lo _ (by omega)
  · rw [hr _ (by omega) (by omega), dyK_o (by omega) (by omega) (by omega) (by omega)]; exact lo _ (by omega)
  · rw [hr _ (by omega) (by omega), dyK_o (by omega) (by omega) (by omega) (by omega)]; exact lo _ (by omega)
theorem PI.day {s : Int → Int} (h : PI s) (h9 : s 3 < 9999) : PI (upA (paF (s 0).toNat s) 3 (s 3 + 1)) := by
  have hd := h.pd
  obtain ⟨a1, a2, a3, a4, ⟨a5, a6⟩, a7⟩ := h
  have lo := (paF_lo hd (k := (s 0).toNat) (by omega)).1
  have l : ∀ i, i < 64 → i ≠ 3 → i ≠ 6 → i ≠ 8 → i ≠ 9 → upA (paF (s 0).toNat s) 3 (s 3 + 1) i = s i := fun i q1 q2 q3 q4 q5 => by rw [upA_n q2]; exact lo i q1 q3 q4 q5
  have hv : ∀ k, 0 ≤ k → k < s 0 → _ := fun k (k0 : 0 ≤ k) (k1 : k < s 0) => paF_hive hd (j := k.toNat) (k := (s 0).toNat) (by omega) (by omega)
  have ck : ∀ k : Int, 0 ≤ k → ((k.toNat : Nat) : Int) = k := fun k k0 => by omega
  have up : ∀ k i, 0 ≤ k → 64 + 198 * k ≤ i → upA (paF (s 0).toNat s) 3 (s 3 + 1) i = paF (s 0).toNat s i := fun k i _ q => upA_n (by omega)
  have e0 := l 0 (by omega) (by omega) (by omega) (by omega) (by omega)
  have e1 := l 1 (by omega) (by omega) (by omega) (by omega) (by omega)
  have e11 := l 11 (by omega) (by omega) (by omega) (by omega) (by omega)
  have e12 := l 12 (by omega) (by omega) (by omega) (by omega) (by omega)
  refine ⟨by rw [e0]; exact a1, by rw [upA_s]; omega, fun k k0 k1 => ?_, a4.ext e1 (l 2 (by omega) (by omega) (by omega) (by omega) (by omega)) (fun i i0 i1 => l i (by omega) (by omega) (by omega) (by omega) (by omega)), ⟨?_, ?_⟩, by rw [e11, e12, e1]; exact a7⟩
  · rw [e0] at k1
    have := hv k k0 k1
    rw [ck k k0] at this
    obtain ⟨q0, q1, q2, q3, q4, q5, q6⟩ := this
    obtain ⟨p1, p2, p3, p4, p5, p6, p7⟩ := a3 k k0 k1
    have u := fun i => up k i k0
    unfold PH
    rw [e1, u _ (by omega), u _ (by omega), u _ (by omega), u _ (by omega), u _ (by omega), u _ (by omega), q0, q4, q5, q6]
    refine ⟨p1, fun i i0 i1 => ?_, q2.1, q3.1, p5, p6, p7⟩
    have q : sh (64 + 198 * k) (upA (paF (s 0).toNat s) 3 (s 3 + 1)) i = sh (64 + 198 * k) (paF (s 0).toNat s) i := u _ (by omega)
    rw [q]
    exact q1 i i0 i1
  · rw [e11, upA_s]
    have : sumB (upA (paF (s 0).toNat s) 3 (s 3 + 1)) ≤ sumB s + 192 * (s 0).toNat := by
      unfold sumB
      rw [e0]
      refine isum_le fun k k0 k1 => ?_
      have q := (hv k k0 (by omega)).2.2.1
      rw [ck k k0] at q
      rw [up k _ k0 (by omega), show 65 + 198 * k = 64 + 198 * k + 1 by omega]
      exact q.2
    omega
  · have := isum_bd (g := fun k => upA (paF (s 0).toNat s) 3 (s 3 + 1) (66 + 198 * k)) (B := 9) (n := (s 0).toNat) fun k k0 k1 => by
      have q := (hv k k0 (by omega)).2.2.2.1
      rw [ck k k0] at q
      rw [up k _ k0 (by omega), show 66 + 198 * k = 64 + 198 * k + 2 by omega]
      exact q
    unfold sumU
    rw [e0]
    omega
theorem paD_3 {s : Int → Int} : ∀ {d : Nat}, paD d s 3 = s 3 + d
  | 0 => by simp [paD]
  | d + 1 => by
    show upA _ 3 _ 3 = _
    rw [upA_s, paD_3 (d := d)]
    omega
theorem PI.paD {s : Int → Int} (h : PI s) : ∀ {d : Nat}, s 3 + d ≤ 9999 → PI (paD d s)
  | 0, _ => h
  | d + 1, hd => (PI.paD h (d := d) (by omega)).day (by rw [paD_3]; omega)
theorem paD_0 {s : Int → Int} (h : PI s) {d : Nat} (hd : s 3 + d ≤ 9999) : ∀ i, i < 64 → i ≠ 3 → i ≠ 6 → i ≠ 8 → i ≠ 9 → paD d s i = s i := paD_lo fun j hj => (h.paD (d := j) (by omega)).pd
theorem paF_hi {s : Int → Int} (h : PD s) : ∀ {k : Nat}, (k : Int) ≤ s 0 → ∀ i, 860 ≤ i → paF k s i = s i := fun hk i hi => (paF_lo h hk).2 i (by have := h.1; omega)
theorem paD_hi {s : Int → Int} (h : PI s) : ∀ {d : Nat}, s 3 + d ≤ 9999 → (∀ i, 860 ≤ i → paD d s i = s i) ∧ ∀ k, 0 ≤ k → k < s 0 → paD d s (64 + 198 * k) = s (64 + 198 * k)
  | 0, _ => ⟨fun _ _ => rfl, fun _ _ _ => rfl⟩
  | d + 1, hd => by
    obtain ⟨i1, i2⟩ := paD_hi h (d := d) (by omega)
    have hp := (h.paD (d := d) (by omega)).pd
    have e0 := paD_0 h (d := d) (by omega) 0 (by omega) (by omega) (by omega) (by omega) (by omega)
    refine ⟨fun i hi => ?_, fun k k0 k1 => ?_⟩
    · show upA _ 3 _ i = _
      rw [upA_n (by omega), paF_hi hp (by have := hp.1; omega) i hi]
      exact i1 i hi
    · show upA _ 3 _ _ = _
      have := (paF_hive hp (j := k.toNat) (k := (paD d s 0).toNat) (by omega) (by have := hp.1; omega)).1
      rw [show ((k.toNat : Nat) : Int) = k by omega] at this
      rw [upA_n (by omega), this]
      exact i2 k k0 k1
/-- the yard that is now was changed by a rule on slots -/
theorem XR.yd {own N : Int → Int} {sz : Int} {im : Int → aIm} {ct ct' cm cm' : Int → Int → Int} (s' : Int → Int) (hR : RT own sz im ct) (HX : XO own sz im ct cm) (HL : LR own sz im ct (ct 10 0) (cm 1) N) (HN : NRl N (cm 2) (cm 1)) (HS : SE own sz im ct (cm 1) (ct 9 1)) (HP : PI (cm 1))
    (e1 : cm' 1 = s') (hY : YR own 0 sz im ct' 10 s' (s' 3) N) (hs : ∀ i, i = 0 ∨ i = 1 ∨ i = 2 ∨ i = 10 ∨ (13 ≤ i ∧ i < 64) ∨ 860 ≤ i → s' i = cm 1 i) (hn : ∀ k, 0 ≤ k → k < cm 1 0 → s' (64 + 198 * k) = cm 1 (64 + 198 * k)) (hP : PI s') (hF : Fok cm')
    (hx : xag own ct ct') (l0 : ct' 10 0 = ct 10 0) (hb : ∀ b, b ≠ 0 → b ≠ 1 → b ≠ 9 → cm' b = cm b) (h0 : ∀ i, i = 10 ∨ i = 16 ∨ i = 17 ∨ i = 34 ∨ i = 35 → cm' 0 i = cm 0 i) (h2 : ct' 0 7 = cm' 0 2) (h3 : ct' 0 8 = cm' 0 3) (h4 : ct' 0 9 = cm' 0 4) : XR (sz, im, ct') cm' := by
  have o9 := hR.2.2.2.2.2.2.1.2.1
  have hl : ∀ x j, own x = -1 → ct' x j = ct x j := fun x j a => hx x j (by omega) (fun z => by have := hR.1.2; rw [z.1] at a; omega)
  have l9 : ct' 9 1 = ct 9 1 := hx 9 1 (by omega) (by omega)
  refine XR.mk hR HX (N := N) (by rw [e1]; exact hY) ?_ ?_ ?_ (by rw [e1]; exact hP) hF hx ⟨h0, fun i i0 i1 => by rw [e1]; exact hs i (by omega), fun i _ => by rw [hb 2 (by decide) (by decide) (by decide)], hb 3 (by decide) (by decide) (by decide), hb 4 (by decide) (by decide) (by decide), hb 5 (by decide) (by decide) (by decide), hb 6 (by decide) (by decide) (by decide), hb 13 (by decide) (by decide) (by decide)⟩ h2 h3 h4
  · rw [l0, e1]
    exact (HL.frame hl).row (hs _ (by omega)) (hs _ (by omega)) (fun i i0 i1 => hs i (by omega))
  · rw [e1, hb 2 (by decide) (by decide) (by decide)]
    unfold NRl
    rw [hs 0 (by omega), hs 1 (by omega), hs 2 (by omega)]
    exact HN
  · rw [l9, e1]
    exact (HS.frame hl).row (hs _ (by omega)) (hs _ (by omega)) (hs _ (by omega)) hn (fun i i0 i1 => hs i (by omega))
