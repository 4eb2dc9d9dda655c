set_option maxRecDepth 100000
/-! operations, 20: split -/
theorem PI.two {s s' : Int → Int} {k g : Int} (h : PI s) (k0 : 0 ≤ k) (k1 : k < s 0) (g0 : 0 ≤ g) (g1 : g < s 0) (ne : k ≠ g) (hd : ∀ i, (i < 64 + 198 * k + 1 ∨ 64 + 198 * k + 3 < i) → (i < 64 + 198 * g + 1 ∨ 64 + 198 * g + 3 < i) → s' i = s i)
    (b1 : 0 ≤ s' (64 + 198 * k + 1)) (b2 : 0 ≤ s' (64 + 198 * g + 1)) (bs : s' (64 + 198 * k + 1) + s' (64 + 198 * g + 1) ≤ s (64 + 198 * k + 1) + s (64 + 198 * g + 1)) (u1 : 0 ≤ s' (64 + 198 * k + 2)) (u2 : 0 ≤ s' (64 + 198 * g + 2)) (us : s' (64 + 198 * k + 2) + s' (64 + 198 * g + 2) ≤ s (64 + 198 * k + 2) + s (64 + 198 * g + 2))
    (q1 : -1 ≤ s' (64 + 198 * k + 3) ∧ s' (64 + 198 * k + 3) < s 1) (q2 : -1 ≤ s' (64 + 198 * g + 3) ∧ s' (64 + 198 * g + 3) < s 1) : PI s' := by
  obtain ⟨a1, a2, a3, a4, ⟨a5, a6⟩, a7⟩ := h
  have e : ∀ i, i < 64 → s' i = s i := fun i i0 => hd i (by omega) (by omega)
  have e0 := e 0 (by omega)
  have e1 := e 1 (by omega)
  have e3 := e 3 (by omega)
  have e11 := e 11 (by omega)
  have e12 := e 12 (by omega)
  have far : ∀ j : Int, j ≠ k → ∀ i, 1 ≤ i → i ≤ 5 → (64 + 198 * j + i < 64 + 198 * k + 1 ∨ 64 + 198 * k + 3 < 64 + 198 * j + i) := fun j hj i i0 i1 => by
    rcases (by omega : j < k ∨ k < j) with z | z <;> omega
  have far2 : ∀ j : Int, j ≠ g → ∀ i, 1 ≤ i → i ≤ 5 → (64 + 198 * j + i < 64 + 198 * g + 1 ∨ 64 + 198 * g + 3 < 64 + 198 * j + i) := fun j hj i i0 i1 => by
    rcases (by omega : j < g ∨ g < j) with z | z <;> omega
  have tk : ∀ i, 1 ≤ i → i ≤ 3 → (fun i => if 64 + 198 * k + 1 ≤ i ∧ i ≤ 64 + 198 * k + 3 then s' i else s i) (64 + 198 * k + i) = s' (64 + 198 * k + i) := fun i i0 i1 => if_pos (by omega)
  have tn : ∀ i, (i < 64 + 198 * k + 1 ∨ 64 + 198 * k + 3 < i) → (fun i => if 64 + 198 * k + 1 ≤ i ∧ i ≤ 64 + 198 * k + 3 then s' i else s i) i = s i := fun i hi => if_neg (by omega)
  generalize (fun i => if 64 + 198 * k + 1 ≤ i ∧ i ≤ 64 + 198 * k + 3 then s' i else s i) = t at tk tn
  have t0 := tn 0 (by omega)
  have B1 := sumB_upd (s := s) (s' := t) t0 k0 k1 fun j j0 j1 hj => by rw [show 65 + 198 * j = 64 + 198 * j + 1 by omega]; exact tn _ (far j hj 1 (by omega) (by omega))
  have U1 := sumU_upd (s := s) (s' := t) t0 k0 k1 fun j j0 j1 hj => by rw [show 66 + 198 * j = 64 + 198 * j + 2 by omega]; exact tn _ (far j hj 2 (by omega) (by omega))
  have st : ∀ j i : Int, j ≠ g → 1 ≤ i → i ≤ 2 → s' (64 + 198 * j + i) = t (64 + 198 * j + i) := fun j i hj i0 i1 => by
    by_cases z : j = k
    · subst z; exact (tk i i0 (by omega)).symm
    · rw [tn _ (far j z i i0 (by omega))]; exact hd _ (far j z i i0 (by omega)) (far2 j hj i i0 (by omega))
  have B2 := sumB_upd (s := t) (s' := s') (by rw [e0, t0]) g0 (by rw [t0]; exact g1) fun j j0 j1 hj => by rw [show 65 + 198 * j = 64 + 198 * j + 1 by omega]; exact st j 1 hj (by omega) (by omega)
  have U2 := sumU_upd (s := t) (s' := s') (by rw [e0, t0]) g0 (by rw [t0]; exact g1) fun j j0 j1 hj => by rw [show 66 + 198 * j = 64 + 198 * j + 2 by omega]; exact st j 2 hj (by omega) (by omega)
  rw [show 65 + 198 * k = 64 + 198 * k + 1 by omega, tk 1 (by omega) (by omega)] at B1
  rw [show 66 + 198 * k = 64 + 198 * k + 2 by omega, tk 2 (by omega) (by omega)] at U1
  rw [show 65 + 198 * g = 64 + 198 * g + 1 by omega, tn _ (far g (fun z => ne z.symm) 1 (by omega) (by omega))] at B2
  rw [show 66 + 198 * g = 64 + 198 * g + 2 by omega, tn _ (far g (fun z => ne z.symm) 2 (by omega) (by omega))] at U2
  refine ⟨by rw [e0]; exact a1, by rw [e3]; exact a2, fun j j0 j1 => ?_, a4.ext e1 (e 2 (by omega)) (fun i i0 i1 => e i i1), ⟨by rw [e3, e11]; omega, by omega⟩, by rw [e11, e12, e1]; exact a7⟩
  rw [e0] at j1
  obtain ⟨p1, p2, p3, p4, p5, p6, p7⟩ := a3 j j0 j1
  have fc : ∀ i, (i = 0 ∨ 4 ≤ i) → i < 198 → s' (64 + 198 * j + i) = s (64 + 198 * j + i) := fun i i0 i1 => hd _ (by rcases (by omega : j < k ∨ j = k ∨ k < j) with z | z | z <;> omega) (by rcases (by omega : j < g ∨ j = g ∨ g < j) with z | z | z <;> omega)
  have r0 := fc 0 (by omega) (by omega)
  rw [Int.add_zero] at r0
  have rg : rgF (s (64 + 198 * j)) (sh (64 + 198 * j) s') := by
    intro i i0 i1
    unfold sh
    rw [show 64 + 198 * j + 6 + i = 64 + 198 * j + (6 + i) by omega, fc _ (by omega) (by omega), show 64 + 198 * j + (6 + i) = 64 + 198 * j + 6 + i by omega]
    exact p2 i i0 i1
  unfold PH
  rw [r0, e1, fc 4 (by omega) (by omega), fc 5 (by omega) (by omega)]
  by_cases z1 : j = k
  · subst z1
    exact ⟨p1, rg, b1, u1, q1, p6, p7⟩
  · by_cases z2 : j = g
    · subst z2
      exact ⟨p1, rg, b2, u2, q2, p6, p7⟩
    · have f3 : ∀ i, 1 ≤ i → i ≤ 3 → s' (64 + 198 * j + i) = s (64 + 198 * j + i) := fun i i0 i1 => hd _ (far j z1 i i0 (by omega)) (far2 j z2 i i0 (by omega))
      rw [f3 1 (by omega) (by omega), f3 2 (by omega) (by omega), f3 3 (by omega) (by omega)]
      exact ⟨p1, rg, p3, p4, p5, p6, p7⟩
/-- every other frame has changed places -/
def splF (s : Int → Int) (k g : Int) : Nat → Int → Int
  | 0 => s
  | j + 1 => mvS (64 + 198 * k + 6 + 16 * (2 * (j : Int) + 1)) (64 + 198 * g + 6 + 16 * (2 * (j : Int) + 1)) 16 (splF s k g j)
theorem splF_hd {s : Int → Int} {k g i h : Int} (h0 : 0 ≤ h) (h1 : h < 6) : ∀ j : Nat, j ≤ 6 → splF s k g j (64 + 198 * i + h) = s (64 + 198 * i + h)
  | 0, _ => rfl
  | j + 1, hj => (mvS_hd (by omega) (by omega) h0 h1).trans (splF_hd h0 h1 j (by omega))
theorem splF_lo {s : Int → Int} {k g i : Int} (k0 : 0 ≤ k) (k1 : k < 4) (g0 : 0 ≤ g) (g1 : g < 4) (hi : i < 64 ∨ 860 ≤ i) : ∀ j : Nat, j ≤ 6 → splF s k g j i = s i
  | 0, _ => rfl
  | j + 1, hj => (mvS_lo k0 k1 g0 g1 (by omega) (by omega) hi).trans (splF_lo k0 k1 g0 g1 hi j (by omega))
theorem splF_h0 {s : Int → Int} {k g i : Int} (j : Nat) (hj : j ≤ 6) : splF s k g j (64 + 198 * i) = s (64 + 198 * i) := by
  have q := splF_hd (s := s) (k := k) (g := g) (i := i) (h := 0) (by omega) (by omega) j hj
  rw [Int.add_zero] at q
  exact q
theorem PI.spl {s : Int → Int} {k g : Int} (h : PI s) (k0 : 0 ≤ k) (k1 : k < s 0) (g0 : 0 ≤ g) (g1 : g < s 0) : ∀ j : Nat, 2 * (j : Int) ≤ s (64 + 198 * k) → 2 * (j : Int) ≤ s (64 + 198 * g) → PI (splF s k g j)
  | 0, _, _ => h
  | j + 1, h1, h2 => by
    have n1 := (h.2.2.1 k k0 k1).1
    have b0 := h.1
    have ih := PI.spl h k0 k1 g0 g1 j (by omega) (by omega)
    have z := splF_lo (s := s) (i := 0) k0 (by omega) g0 (by omega) (by omega) j (by omega)
    have y1 := splF_h0 (s := s) (k := k) (g := g) (i := k) j (by omega)
    have y2 := splF_h0 (s := s) (k := k) (g := g) (i := g) j (by omega)
    exact ih.swap k0 (by omega) g0 (by omega) (by omega) (by omega)
def SPI (own own1 : Int → Int) (sz : Int) (im : Int → aIm) (ct ct1 : Int → Int → Int) (t N : Int → Int) (dd : Int) : Prop := (∀ x, ¬ (0 ≤ own x ∧ own x < 10) → own1 x = own x) ∧ (∀ x, 0 ≤ own x ∧ own x < 10 → 0 ≤ own1 x ∧ own1 x < 10) ∧ YR own1 0 sz im ct1 10 t dd N ∧ (∀ x i, ¬ (0 ≤ own x ∧ own x < 10) → ct1 x i = ct x i) ∧ ∀ i, ct1 10 i = ct 10 i
theorem SPI.rt {own own1 : Int → Int} {sz : Int} {im : Int → aIm} {ct ct1 : Int → Int → Int} {t N : Int → Int} {dd : Int} (hR : RT own sz im ct) (h : SPI own own1 sz im ct ct1 t N dd) : RT own1 sz im ct1 :=
  (RT.tr (ct' := ct) ⟨Int.le_refl _, fun _ _ => rfl, fun _ _ => rfl, fun x _ hx => h.1 x hx⟩ hR).frame fun t _ _ => h.2.2.2.1 1 t (by have := hR.2.2.1.2.1; omega)
theorem SPI.step {own own1 : Int → Int} {sz : Int} {im : Int → aIm} {ct ct1 : Int → Int → Int} {t N : Int → Int} {dd k g f a b : Int} (h : SPI own own1 sz im ct ct1 t N dd) (hP : PI t) (k0 : 0 ≤ k) (k1 : k < t 0) (g0 : 0 ≤ g) (g1 : g < t 0) (ne : k ≠ g) (f0 : 0 ≤ f ∧ f < t (64 + 198 * k)) (e0 : 0 ≤ f ∧ f < t (64 + 198 * g)) (ea : ct1 ((im 10).2.2 1) k = a) (eb : ct1 ((im 10).2.2 1) g = b) :
    ∃ own2, SPI own own2 sz im ct (aup (aup ct1 ((im a).2.2 1) f (ct1 ((im b).2.2 1) f)) ((im b).2.2 1) f (ct1 ((im a).2.2 1) f)) (mvS (64 + 198 * k + 6 + 16 * f) (64 + 198 * g + 6 + 16 * f) 16 t) N dd := by
  obtain ⟨h1, h2, h3, h4, h5⟩ := h
  have ya := h3.2.2.2.2.2.2.2 k k0 k1
  have yb := h3.2.2.2.2.2.2.2 g g0 g1
  rw [ea] at ya
  rw [eb] at yb
  obtain ⟨own', w1, w2, w3, w4, w5⟩ := h3.swap (fun j j0 j1 => (hP.2.2.1 j j0 j1).1) k0 k1 g0 g1 f0 e0 (Or.inl ne) ea eb
  have tg : ∀ x, ¬ (0 ≤ own x ∧ own x < 10) → ¬ (0 ≤ own1 x ∧ own1 x < 10) := fun x hx => by rw [h1 x hx]; exact hx
  refine ⟨own', fun x hx => (w1 x (tg x hx)).trans (h1 x hx), fun x hx => w2 x (h2 x hx), w5, fun x i hx => ?_, fun i => ?_⟩
  · rw [aup_rn (fun z => tg x hx (by rw [z]; exact w4)), aup_rn (fun z => tg x hx (by rw [z]; exact w3))]
    exact h4 x i hx
  · rw [aup_rn (aob_ne h3.1 yb.1.2.1 (by decide)), aup_rn (aob_ne h3.1 ya.1.2.1 (by decide))]
    exact h5 i
theorem L_x_split {own : Int → Int} {sz : Int} {im : Int → aIm} {ct : Int → Int → Int} {s N : Int → Int} {dd a b : Int} {J : Nat} {Q : aPost} {d kc ks : Nat} (hd : 4 ≤ d) (hR : RT own sz im ct) (HP : PI s) (a0 : 0 ≤ a ∧ a < s 0) (b0 : 0 ≤ b ∧ b < s 0) (ne : a ≠ b) (hJ : (J : Int) = min (s (64 + 198 * a)) (s (64 + 198 * b)) / 2) (K : ∀ (own1 : Int → Int) (ct1 : Int → Int → Int) (x3 : Int), SPI own own1 sz im ct ct1 (splF s a b J) N dd → AW (mq Q) md_X0_split d kc ks 121 [some (vR 0), some (vI a), some (vI b), some (vI x3)] [] (sz, im, ct1)) : ∀ (r j : Nat) (f : Int) (own1 : Int → Int) (ct1 : Int → Int → Int), j + r = J → f = 2 * j + 1 → SPI own own1 sz im ct ct1 (splF s a b j) N dd → AW (mq Q) md_X0_split d kc ks 75 [some (vR 0), some (vI a), some (vI b), some (vI f)] [] (sz, im, ct1) := by
  have hJ6 : (J : Int) ≤ 6 := by
    have cn1 := (HP.2.2.1 a a0.1 a0.2).1
    omega
  intro r
  induction r with
  | zero =>
    intro j f own1 ct1 h1 hf hI
    have ej : j = J := by omega
    have hR1 := hI.rt hR
    have hY1 := hI.2.2.1
    have c0 := HP.1
    have cn1 := (HP.2.2.1 a a0.1 a0.2).1
    have cn2 := (HP.2.2.1 b b0.1 b0.2).1
    have z0 := splF_lo (s := s) (k := a) (g := b) (i := 0) (by omega) (by omega) (by omega) (by omega) (by omega) j (by omega)
    have za := splF_h0 (s := s) (k := a) (g := b) (i := a) j (by omega)
    have zb := splF_h0 (s := s) (k := a) (g := b) (i := b) j (by omega)
    obtain ⟨hv, ehv, ⟨g1, g2, -⟩, -⟩ := hY1.hv hR1 (k := a) (by omega) (by omega)
    obtain ⟨hw, ehw, ⟨u1, u2, -⟩, -⟩ := hY1.hv hR1 (k := b) (by omega) (by omega)
    rw [za] at g1 g2
    rw [zb] at u1 u2
    rw [ej] at hI
    refine aw_iload_n dX0_split_75 rfl ?_
    refine aw_aload_n dX0_split_76 rfl ?_
    refine aw_iload_n dX0_split_77 rfl ?_
    refine c_X0_172 rfl dX0_split_78 hR.o0 (Nat.le_of_ble_eq_true rfl) (by omega) (C_x_xat2 (a := hv) hR1 hY1 (by omega) ehv ?_)
    refine aK_i ?_
    refine g_X0_176_9 rfl dX0_split_81 g1.1 ?_
    refine aw_alen dX0_split_84 g1.2.1 ?_
    refine aw_aload_n dX0_split_85 rfl ?_
    refine aw_iload_n dX0_split_86 rfl ?_
    refine c_X0_172 rfl dX0_split_87 hR.o0 (Nat.le_of_ble_eq_true rfl) (by omega) (C_x_xat2 (a := hw) hR1 hY1 (by omega) ehw ?_)
    refine aK_i ?_
    refine g_X0_176_9 rfl dX0_split_90 u1.1 ?_
    refine aw_alen dX0_split_93 u1.2.1 ?_
    refine aw_mmin dX0_split_94 q1134 q816 q137 q817 (Nat.le_of_ble_eq_true rfl) (by omega) ?_
    refine aw_icmpge (tgt := 121) dX0_split_97 (by decide) (fun h97 => ?_) (fun h97 => ?_)
    · exact K _ _ _ hI
    · exfalso; omega
  | succ r ih =>
    intro j f own1 ct1 h1 hf hI
    have hR1 := hI.rt hR
    have hY1 := hI.2.2.1
    have c0 := HP.1
    have cn1 := (HP.2.2.1 a a0.1 a0.2).1
    have cn2 := (HP.2.2.1 b b0.1 b0.2).1
    have z0 := splF_lo (s := s) (k := a) (g := b) (i := 0) (by omega) (by omega) (by omega) (by omega) (by omega) j (by omega)
    have za := splF_h0 (s := s) (k := a) (g := b) (i := a) j (by omega)
    have zb := splF_h0 (s := s) (k := a) (g := b) (i := b) j (by omega)
    obtain ⟨hv, ehv, ⟨g1, g2, -⟩, -⟩ := hY1.hv hR1 (k := a) (by omega) (by omega)
    obtain ⟨hw, ehw, ⟨u1, u2, -⟩, -⟩ := hY1.hv hR1 (k := b) (by omega) (by omega)
    rw [za] at g1 g2
    rw [zb] at u1 u2
    have hA9 := g2.2.1 f (by omega) (by omega)
    have hB9 := u2.2.1 f (by omega) (by omega)
    have hPj := HP.spl a0.1 a0.2 b0.1 b0.2 j (by omega) (by omega)
    obtain ⟨own2, hI2⟩ := hI.step hPj (k := a) (g := b) (f := f) (by omega) (by omega) (by omega) (by omega) ne (by omega) (by omega) ehv ehw
    refine aw_iload_n dX0_split_75 rfl ?_
    refine aw_aload_n dX0_split_76 rfl ?_
    refine aw_iload_n dX0_split_77 rfl ?_
    refine c_X0_172 rfl dX0_split_78 hR.o0 (Nat.le_of_ble_eq_true rfl) (by omega) (C_x_xat2 (a := hv) hR1 hY1 (by omega) ehv ?_)
    refine aK_i ?_
    refine g_X0_176_9 rfl dX0_split_81 g1.1 ?_
    refine aw_alen dX0_split_84 g1.2.1 ?_
    refine aw_aload_n dX0_split_85 rfl ?_
    refine aw_iload_n dX0_split_86 rfl ?_
    refine c_X0_172 rfl dX0_split_87 hR.o0 (Nat.le_of_ble_eq_true rfl) (by omega) (C_x_xat2 (a := hw) hR1 hY1 (by omega) ehw ?_)
    refine aK_i ?_
    refine g_X0_176_9 rfl dX0_split_90 u1.1 ?_
    refine aw_alen dX0_split_93 u1.2.1 ?_
    refine aw_mmin dX0_split_94 q1134 q816 q137 q817 (Nat.le_of_ble_eq_true rfl) (by omega) ?_
    refine aw_icmpge (tgt := 121) dX0_split_97 (by decide) (fun h97 => ?_) (fun h97 => ?_)
    · exfalso; omega
    · refine aw_aload_n dX0_split_100 rfl ?_
      refine aw_iload_n dX0_split_101 rfl ?_
      refine c_X0_172 rfl dX0_split_102 hR.o0 (Nat.le_of_ble_eq_true rfl) (by omega) (C_x_xat2 (a := hv) hR1 hY1 (by omega) ehv ?_)
      refine aK_i ?_
      refine aw_iload_n dX0_split_105 rfl ?_
      refine aw_aload_n dX0_split_106 rfl ?_
      refine aw_iload_n dX0_split_107 rfl ?_
      refine c_X0_172 rfl dX0_split_108 hR.o0 (Nat.le_of_ble_eq_true rfl) (by omega) (C_x_xat2 (a := hw) hR1 hY1 (by omega) ehw ?_)
      refine aK_i ?_
      refine aw_iload_n dX0_split_111 rfl ?_
      refine c_X0_337 rfl dX0_split_112  (Nat.le_of_ble_eq_true rfl) (by omega) (C_x_swaps g1 u1 (by omega) (by omega) (by omega) (by omega) hA9 hB9 ?_)
      refine aK_v ?_
      refine aw_iinc3r dX0_split_115 (by decide) (by decide) rfl (by omega) ?_
      refine aw_goto (tgt := 75) dX0_split_118 (by decide) ?_
      exact ih (j + 1) _ own2 _ (by omega) (by omega) (by rw [hf] at hI2 ⊢; exact hI2)
theorem L_m_split {cm : Int → Int → Int} {a b : Int} {J : Nat} {Q : aPost} {d kc ks : Nat} (hd : 3 ≤ d) (HP : PI (cm 1)) (a0 : 0 ≤ a ∧ a < cm 1 0) (b0 : 0 ≤ b ∧ b < cm 1 0) (ne : a ≠ b) (hJ : (J : Int) = min (cm 1 (64 + 198 * a)) (cm 1 (64 + 198 * b)) / 2) (K : ∀ (ct1 : Int → Int → Int) (x5 : Int), ct1 1 = splF (cm 1) a b J → (∀ i, i ≠ 1 → ct1 i = cm i) → AW (mq Q) md_X7_split d kc ks 140 [some (vR 0), some (vI a), some (vI b), some (vI (64 + 198 * a)), some (vI (64 + 198 * b)), some (vI x5)] [] (gM ct1)) : ∀ (r j : Nat) (f : Int) (ct1 : Int → Int → Int), j + r = J → f = 2 * j + 1 → ct1 1 = splF (cm 1) a b j → (∀ i, i ≠ 1 → ct1 i = cm i) → AW (mq Q) md_X7_split d kc ks 93 [some (vR 0), some (vI a), some (vI b), some (vI (64 + 198 * a)), some (vI (64 + 198 * b)), some (vI f)] [] (gM ct1) := by
  have c0 := HP.1
  have cn1 := (HP.2.2.1 a a0.1 a0.2).1
  have cn2 := (HP.2.2.1 b b0.1 b0.2).1
  intro r
  induction r with
  | zero =>
    intro j f ct1 h1 hf e1 e2
    have ej : j = J := by omega
    have za : ct1 1 (64 + 198 * a) = cm 1 (64 + 198 * a) := by rw [e1]; exact splF_h0 j (by omega)
    have zb : ct1 1 (64 + 198 * b) = cm 1 (64 + 198 * b) := by rw [e1]; exact splF_h0 j (by omega)
    rw [ej] at e1
    refine aw_iload dX7_split_93 rfl ?_
    refine gm_7 rfl dX7_split_95 dX7_split_96 rfl ?_
    refine aw_iload_n dX7_split_99 rfl ?_
    refine aw_iaload dX7_split_100 m_a1 (by omega) (by omega) ?_
    rw [za]
    refine aw_icmpge (tgt := 140) dX7_split_101 (by decide) (fun h101 => ?_) (fun h101 => ?_)
    · exact K _ _ e1 e2
    · refine aw_iload dX7_split_104 rfl ?_
      refine gm_7 rfl dX7_split_106 dX7_split_107 rfl ?_
      refine aw_iload dX7_split_110 rfl ?_
      refine aw_iaload dX7_split_112 m_a1 (by omega) (by omega) ?_
      rw [zb]
      refine aw_icmpge (tgt := 140) dX7_split_113 (by decide) (fun h113 => ?_) (fun h113 => ?_)
      · exact K _ _ e1 e2
      · exfalso; omega
  | succ r ih =>
    intro j f ct1 h1 hf e1 e2
    have za : ct1 1 (64 + 198 * a) = cm 1 (64 + 198 * a) := by rw [e1]; exact splF_h0 j (by omega)
    have zb : ct1 1 (64 + 198 * b) = cm 1 (64 + 198 * b) := by rw [e1]; exact splF_h0 j (by omega)
    refine aw_iload dX7_split_93 rfl ?_
    refine gm_7 rfl dX7_split_95 dX7_split_96 rfl ?_
    refine aw_iload_n dX7_split_99 rfl ?_
    refine aw_iaload dX7_split_100 m_a1 (by omega) (by omega) ?_
    rw [za]
    refine aw_icmpge (tgt := 140) dX7_split_101 (by decide) (fun h101 => ?_) (fun h101 => ?_)
    · exfalso; omega
    · refine aw_iload dX7_split_104 rfl ?_
      refine gm_7 rfl dX7_split_106 dX7_split_107 rfl ?_
      refine aw_iload dX7_split_110 rfl ?_
      refine aw_iaload dX7_split_112 m_a1 (by omega) (by omega) ?_
      rw [zb]
      refine aw_icmpge (tgt := 140) dX7_split_113 (by decide) (fun h113 => ?_) (fun h113 => ?_)
      · exfalso; omega
      · refine aw_aload_n dX7_split_116 rfl ?_
        refine aw_aload_n dX7_split_117 rfl ?_
        refine aw_iload_n dX7_split_118 rfl ?_
        refine aw_iload dX7_split_119 rfl ?_
        refine c_X7_301 rfl dX7_split_121 m_ob (Nat.le_of_ble_eq_true rfl) (by omega) (C_m_frameRow (by omega) (by omega) ?_)
        refine aK_i ?_
        refine aw_aload_n dX7_split_124 rfl ?_
        refine aw_iload_n dX7_split_125 rfl ?_
        refine aw_iload dX7_split_126 rfl ?_
        refine c_X7_301 rfl dX7_split_128 m_ob (Nat.le_of_ble_eq_true rfl) (by omega) (C_m_frameRow (by omega) (by omega) ?_)
        refine aK_i ?_
        refine c_X7_327 rfl dX7_split_131 m_ob (Nat.le_of_ble_eq_true rfl) (by omega) (C_m_moves (by omega) (by omega) ?_ (fun ct2 t1 t2 => ?_))
        · rcases (by omega : a < b ∨ b < a) with z | z <;> omega
        · refine aK_v ?_
          refine aw_iinc5r dX7_split_134 (by decide) (by decide) rfl (by omega) ?_
          refine aw_goto (tgt := 93) dX7_split_137 (by decide) ?_
          exact ih (j + 1) _ ct2 (by omega) (by omega) (by rw [t1, e1, hf]; rfl) (fun i hi => (t2 i hi).trans (e2 i hi))
