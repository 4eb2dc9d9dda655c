set_option maxRecDepth 100000
/-! new lines, a new yard, a new house -/
def LNA (sz : Int) (im : Int → aIm) (a o : Int) : Prop := aob sz im a 6 ∧ (∀ i, 0 ≤ i → i < 6 → (im a).2.2 i = o + i) ∧ aar sz im o 3 16 ∧ aar sz im (o + 1) 2 16 ∧ aar sz im (o + 2) 2 16 ∧ aar sz im (o + 3) 2 16 ∧ aar sz im (o + 4) 2 8 ∧ aar sz im (o + 5) 2 16
theorem C_x_linit {sz : Int} {im : Int → aIm} {ct : Int → Int → Int} {a : Int} {Q : aPost} (hO : aob sz im a 6)
    (hQ : ∀ (im1 : Int → aIm) (ct1 : Int → Int → Int), LNA (sz + 6) im1 a sz → (∀ x, x < sz → x ≠ a → im1 x = im x) → (∀ x, x < sz → ct1 x = ct x) → Q (.inl none) (sz + 6, im1, ct1)) : AMet md_X6_init 2 6 88 [vR a] (sz, im, ct) Q := by
  refine AMet.go (L := [some (vR a)]) mok_X6_init (Nat.le_of_ble_eq_true rfl) rfl ?_
  have ha := hO.2.1
  have ha0 := hO.1
  refine aw_aload_n dX6_init_0 rfl ?_
  refine aw_objInit dX6_init_1 q271 q151 q152 (by omega) (by omega) (Nat.le_of_ble_eq_true rfl) ?_
  refine aw_aload_n dX6_init_4 rfl ?_
  refine aw_bipush dX6_init_5 (by decide) ?_
  refine AW.widen (kc' := 5 + 1) (ks' := 72 + (16 : Int).toNat) (by decide) (by decide) (aw_newarr_long dX6_init_7 q305 (by decide) (by decide) ?_)
  refine pF_X6_9_6 rfl rfl dX6_init_9 (aob_new hO) ?_
  refine aw_aload_n dX6_init_12 rfl ?_
  refine aw_bipush dX6_init_13 (by decide) ?_
  refine AW.widen (kc' := 4 + 1) (ks' := 56 + (16 : Int).toNat) (by decide) (by decide) (aw_newarr_int dX6_init_15 q306 (by decide) (by decide) ?_)
  refine pF_X6_15_6 rfl rfl dX6_init_17 (aob_new (aob_imf (aob_new hO))) ?_
  refine aw_aload_n dX6_init_20 rfl ?_
  refine aw_bipush dX6_init_21 (by decide) ?_
  refine AW.widen (kc' := 3 + 1) (ks' := 40 + (16 : Int).toNat) (by decide) (by decide) (aw_newarr_int dX6_init_23 q306 (by decide) (by decide) ?_)
  refine pF_X6_19_6 rfl rfl dX6_init_25 (aob_new (aob_imf (aob_new (aob_imf (aob_new hO))))) ?_
  refine aw_aload_n dX6_init_28 rfl ?_
  refine aw_bipush dX6_init_29 (by decide) ?_
  refine AW.widen (kc' := 2 + 1) (ks' := 24 + (16 : Int).toNat) (by decide) (by decide) (aw_newarr_int dX6_init_31 q306 (by decide) (by decide) ?_)
  refine pF_X6_22_6 rfl rfl dX6_init_33 (aob_new (aob_imf (aob_new (aob_imf (aob_new (aob_imf (aob_new hO))))))) ?_
  refine aw_aload_n dX6_init_36 rfl ?_
  refine aw_bipush dX6_init_37 (by decide) ?_
  refine AW.widen (kc' := 1 + 1) (ks' := 16 + (8 : Int).toNat) (by decide) (by decide) (aw_newarr_int dX6_init_39 q306 (by decide) (by decide) ?_)
  refine pF_X6_25_6 rfl rfl dX6_init_41 (aob_new (aob_imf (aob_new (aob_imf (aob_new (aob_imf (aob_new (aob_imf (aob_new hO))))))))) ?_
  refine aw_aload_n dX6_init_44 rfl ?_
  refine aw_bipush dX6_init_45 (by decide) ?_
  refine AW.widen (kc' := 0 + 1) (ks' := 0 + (16 : Int).toNat) (by decide) (by decide) (aw_newarr_int dX6_init_47 q306 (by decide) (by decide) ?_)
  refine pF_X6_28_6 rfl rfl dX6_init_49 (aob_new (aob_imf (aob_new (aob_imf (aob_new (aob_imf (aob_new (aob_imf (aob_new (aob_imf (aob_new hO))))))))))) ?_
  refine aw_ret dX6_init_52 rfl ?_
  have E : sz + 1 + 1 + 1 + 1 + 1 + 1 = sz + 6 := by omega
  rw [E]
  refine hQ _ _ ⟨by rw [← E]; exact aob_imf (aob_new (aob_imf (aob_new (aob_imf (aob_new (aob_imf (aob_new (aob_imf (aob_new (aob_imf (aob_new hO))))))))))), fun i i0 i1 => ?_, ⟨by omega, by omega, ?_⟩, ⟨by omega, by omega, ?_⟩, ⟨by omega, by omega, ?_⟩, ⟨by omega, by omega, ?_⟩, ⟨by omega, by omega, ?_⟩, ⟨by omega, by omega, ?_⟩⟩ (fun x hx hxa => ?_) (fun x hx => ?_)
  · rcases (by omega : i = 0 ∨ i = 1 ∨ i = 2 ∨ i = 3 ∨ i = 4 ∨ i = 5) with z | z | z | z | z | z <;> subst z
    all_goals (repeat (first | rw [imf_s] | rw [imf_n (by omega)] | rw [upA_s] | rw [upA_n (by omega)] | rw [if_pos (by omega)] | rw [if_neg (by omega)]))
    all_goals try omega
  · (repeat (first | rw [imf_s] | rw [imf_n (by omega)] | rw [upA_s] | rw [upA_n (by omega)] | rw [if_pos (by omega)] | rw [if_neg (by omega)]))
    exact ⟨rfl, rfl⟩
  · rw [show sz + 1 = sz + 1 by omega]
    (repeat (first | rw [imf_s] | rw [imf_n (by omega)] | rw [upA_s] | rw [upA_n (by omega)] | rw [if_pos (by omega)] | rw [if_neg (by omega)]))
    exact ⟨rfl, rfl⟩
  · rw [show sz + 2 = sz + 1 + 1 by omega]
    (repeat (first | rw [imf_s] | rw [imf_n (by omega)] | rw [upA_s] | rw [upA_n (by omega)] | rw [if_pos (by omega)] | rw [if_neg (by omega)]))
    exact ⟨rfl, rfl⟩
  · rw [show sz + 3 = sz + 1 + 1 + 1 by omega]
    (repeat (first | rw [imf_s] | rw [imf_n (by omega)] | rw [upA_s] | rw [upA_n (by omega)] | rw [if_pos (by omega)] | rw [if_neg (by omega)]))
    exact ⟨rfl, rfl⟩
  · rw [show sz + 4 = sz + 1 + 1 + 1 + 1 by omega]
    (repeat (first | rw [imf_s] | rw [imf_n (by omega)] | rw [upA_s] | rw [upA_n (by omega)] | rw [if_pos (by omega)] | rw [if_neg (by omega)]))
    exact ⟨rfl, rfl⟩
  · rw [show sz + 5 = sz + 1 + 1 + 1 + 1 + 1 by omega]
    (repeat (first | rw [imf_s] | rw [imf_n (by omega)] | rw [upA_s] | rw [upA_n (by omega)] | rw [if_pos (by omega)] | rw [if_neg (by omega)]))
    exact ⟨rfl, rfl⟩
  · (repeat (first | rw [imf_n hxa] | rw [upA_n (by omega)]))
  · (repeat rw [upA_n (by omega)])
theorem LNA.mono {sz sz' : Int} {im im' : Int → aIm} {a o : Int} (h : LNA sz im a o) (hz : sz ≤ sz') (hi : ∀ x, x < sz → im' x = im x) : LNA sz' im' a o := by
  obtain ⟨h0, h1, a0, a1, a2, a3, a4, a5⟩ := h
  have m : ∀ {x n : Int} {t : Nat}, aar sz im x t n → aar sz' im' x t n := fun h => ⟨h.1, by have := h.2.1; omega, by rw [hi _ h.2.1]; exact h.2.2⟩
  exact ⟨⟨h0.1, by have := h0.2.1; omega, by rw [hi _ h0.2.1]; exact h0.2.2⟩, by rw [hi _ h0.2.1]; exact h1, m a0, m a1, m a2, m a3, m a4, m a5⟩
/-- a new yard -/
def NY (sz : Int) (im : Int → aIm) (ct : Int → Int → Int) (ya la ha : Int) : Prop := (aob sz im ya 5 ∧ (im ya).2.2 1 = ha ∧ aar sz im ha 5 4 ∧ ct ya 0 = la) ∧ LNA sz im la (la + 1) ∧ (ct la 6 = 0 ∧ ct la 7 = 0) ∧ ∀ j, 2 ≤ j → j < 12 → ct ya j = if j = 11 then -1 else 0
theorem C_x_yinit {sz : Int} {im : Int → aIm} {ct : Int → Int → Int} {a : Int} {Q : aPost} (hO : aob sz im a 5) (hz : ∀ j, 2 ≤ j → j < 12 → ct a j = 0)
    (hQ : ∀ (im1 : Int → aIm) (ct1 : Int → Int → Int), NY (sz + 8) im1 ct1 a sz (sz + 7) → (∀ x, x < sz → x ≠ a → im1 x = im x ∧ ct1 x = ct x) → Q (.inl none) (sz + 8, im1, ct1)) : AMet md_X5_init 3 8 100 [vR a] (sz, im, ct) Q := by
  refine AMet.go (L := [some (vR a)]) mok_X5_init (Nat.le_of_ble_eq_true rfl) rfl ?_
  have ha := hO.2.1
  have ha0 := hO.1
  refine aw_aload_n dX5_init_0 rfl ?_
  refine aw_objInit dX5_init_1 q265 q151 q152 (by omega) (by omega) (Nat.le_of_ble_eq_true rfl) ?_
  refine aw_aload_n dX5_init_4 rfl ?_
  refine AW.widen (kc' := 7 + 1) (ks' := 92 + 8) (by first | decide | omega) (by first | decide | omega) (aw_new (c9 := 6) (q := (RX6, TX6, 8)) (N9 := 8) dX5_init_5 rfl q266 q267 q124 rfl ?_)
  refine aw_dup dX5_init_8 rfl ?_
  refine c_X5_11a (kc1 := 6) (ks1 := 88) (kc2 := 1) (ks2 := 4) (by decide) (by decide) rfl dX5_init_9 (by omega) (Nat.le_of_ble_eq_true rfl) (by omega) (C_x_linit (aob_at (by omega)) (fun im1 ct1 l0 zi zc => ?_))
  refine aK_v ?_
  have gi : ∀ x, x < sz → im1 x = im x := fun x hx => by rw [zi x (by omega) (by omega), upA_n (by omega)]
  have gc : ∀ x, x < sz → ct1 x = ct x := fun x hx => by rw [zc x (by omega), upA_n (by omega)]
  have gs : ct1 sz = adf 6 := by rw [zc sz (by omega), upA_s]
  have hO1 : aob (sz + 1 + 6) im1 a 5 := ⟨hO.1, by omega, by rw [gi a ha]; exact hO.2.2⟩
  refine p_X5_12_5 rfl dX5_init_12 hO1 ?_
  refine aw_aload_n dX5_init_15 rfl ?_
  refine aw_iconst dX5_init_16 (by decide) ?_
  refine AW.widen (kc' := 0 + 1) (ks' := 0 + (4 : Int).toNat) (by first | decide | omega) (by first | decide | omega) (aw_anew (t := 5) dX5_init_17 q307 (by decide) (by decide) rfl (by first | decide | simp [awAO]) (by first | decide | omega) (by first | decide | omega) ?_)
  refine pF_X5_20_5 rfl rfl dX5_init_20 (aob_new hO1) ?_
  refine aw_aload_n dX5_init_23 rfl ?_
  refine aw_iconst dX5_init_24 (by decide) ?_
  refine p_X5_24_5 rfl dX5_init_25 (aob_imf (aob_new hO1)) ?_
  refine aw_ret dX5_init_28 rfl ?_
  have E : sz + 1 + 6 + 1 = sz + 8 := by omega
  have E7 : sz + 1 + 6 = sz + 7 := by omega
  rw [E7] at l0 hO1 ⊢
  rw [show sz + 7 + 1 = sz + 8 by omega]
  have hO2 : aob (sz + 8) (imf (upA im1 (sz + 7) (50 + 5, (4 : Int).toNat, fun _ => 0)) a 1 (sz + 7)) a 5 := by
    rw [show sz + 8 = sz + 7 + 1 by omega]
    exact aob_imf (aob_new hO1)
  refine hQ _ _ ⟨⟨hO2, by rw [imf_s]; rfl, ?_, ?_⟩, ?_, ⟨?_, ?_⟩, fun j j0 j1 => ?_⟩ (fun x hx hxa => ⟨?_, ?_⟩)
  · refine aar_imf ⟨by omega, by omega, ?_⟩
    rw [upA_s]
    exact ⟨rfl, rfl⟩
  · rw [aup_n (by omega), upA_n (by omega), aup_s]
  · obtain ⟨m0, m1, b0, b1, b2, b3, b4, b5⟩ := l0
    rw [show sz + 8 = sz + 7 + 1 by omega]
    exact ⟨aob_imf (aob_new m0), by rw [imf_n (by omega), upA_n (by omega)]; exact m1, aar_imf (aar_new b0), aar_imf (aar_new b1), aar_imf (aar_new b2), aar_imf (aar_new b3), aar_imf (aar_new b4), aar_imf (aar_new b5)⟩
  · rw [aup_n (by omega), upA_n (by omega), aup_n (by omega), gs]; rfl
  · rw [aup_n (by omega), upA_n (by omega), aup_n (by omega), gs]; rfl
  · by_cases z : j = 11
    · subst z; rw [aup_s, if_pos rfl]
    · rw [aup_n (by omega), upA_n (by omega), aup_n (by omega), gc a ha, if_neg z]; exact hz j j0 j1
  · rw [imf_n hxa, upA_n (by omega), gi x hx]
  · rw [aup_rn hxa, upA_n (by omega), aup_rn hxa, gc x hx]
theorem C_x_houseinit {sz : Int} {im : Int → aIm} {ct : Int → Int → Int} {a : Int} {Q : aPost} (hO : aob sz im a 4)
    (hQ : ∀ (im1 : Int → aIm) (ct1 : Int → Int → Int), aob (sz + 9) im1 a 4 → (im1 a).2.2 0 = sz → NY (sz + 9) im1 ct1 sz (sz + 1) (sz + 8) → (∀ x, x < sz → ct1 x = ct x) → (∀ x, x < sz → x ≠ a → im1 x = im x) → Q (.inl none) (sz + 9, im1, ct1)) : AMet md_X4_init 4 9 112 [vR a] (sz, im, ct) Q := by
  refine AMet.go (L := [some (vR a)]) mok_X4_init (Nat.le_of_ble_eq_true rfl) rfl ?_
  have ha := hO.2.1
  have ha0 := hO.1
  refine aw_aload_n dX4_init_0 rfl ?_
  refine aw_objInit dX4_init_1 q259 q151 q152 (by omega) (by omega) (Nat.le_of_ble_eq_true rfl) ?_
  refine aw_aload_n dX4_init_4 rfl ?_
  refine AW.widen (kc' := 8 + 1) (ks' := 100 + 12) (by first | decide | omega) (by first | decide | omega) (aw_new (c9 := 5) (q := (RX5, TX5, 12)) (N9 := 12) dX4_init_5 rfl q260 q261 q123 rfl ?_)
  refine aw_dup dX4_init_8 rfl ?_
  refine c_X4_9a (kc1 := 8) (ks1 := 100) (kc2 := 0) (ks2 := 0) (by decide) (by decide) rfl dX4_init_9 (by omega) (Nat.le_of_ble_eq_true rfl) (by omega) (C_x_yinit (aob_at (by omega)) (fun j j0 j1 => ?_) (fun im1 ct1 hN zz => ?_))
  · rw [upA_s]
    rcases (by omega : j = 2 ∨ j = 3 ∨ j = 4 ∨ j = 5 ∨ j = 6 ∨ j = 7 ∨ j = 8 ∨ j = 9 ∨ j = 10 ∨ j = 11) with z | z | z | z | z | z | z | z | z | z <;> (subst z; rfl)
  refine aK_v ?_
  have gi : ∀ x, x < sz → im1 x = im x ∧ ct1 x = ct x := fun x hx => by
    have q := zz x (by omega) (by omega)
    rw [upA_n (by omega), upA_n (by omega)] at q
    exact q
  have hO1 : aob (sz + 1 + 8) im1 a 4 := ⟨hO.1, by omega, by rw [(gi a ha).1]; exact hO.2.2⟩
  refine pF_X4_10_4 rfl rfl dX4_init_12 hO1 ?_
  refine aw_ret dX4_init_15 rfl ?_
  rw [show sz + 1 + 8 = sz + 9 by omega, show sz + 1 + 7 = sz + 8 by omega] at hN
  rw [show sz + 1 + 8 = sz + 9 by omega] at hO1 ⊢
  have hN2 : NY (sz + 9) (imf im1 a 0 sz) ct1 sz (sz + 1) (sz + 8) := by
    obtain ⟨⟨n1, n2, n3, n4⟩, n5, n6, n7⟩ := hN
    refine ⟨⟨aob_imf n1, by rw [imf_n (by omega)]; exact n2, aar_imf n3, n4⟩, ?_, n6, n7⟩
    obtain ⟨m0, m1, b0, b1, b2, b3, b4, b5⟩ := n5
    exact ⟨aob_imf m0, by rw [imf_n (by omega)]; exact m1, aar_imf b0, aar_imf b1, aar_imf b2, aar_imf b3, aar_imf b4, aar_imf b5⟩
  exact hQ _ _ (aob_imf hO1) (by rw [imf_s]; rfl) hN2 (fun x hx => (gi x hx).2) (fun x hx hxa => by rw [imf_n hxa]; exact (gi x hx).1)
/-- a yard of nothing -/
def pl0 : Int → Int := fun i => if i = 10 ∨ i = 11 ∨ i = 12 then -1 else 0
theorem NY.yr {sz : Int} {im : Int → aIm} {ct : Int → Int → Int} {ya la ha y : Int} {own N : Int → Int} (h : NY sz im ct ya la ha) (o1 : own ya = 10 * y + 9) (o2 : own ha = 10 * y + 9) : YR own y sz im ct ya pl0 0 N := by
  obtain ⟨⟨h1, h2, h3, h4⟩, -, -, h7⟩ := h
  have e : ∀ j, 2 ≤ j → j < 12 → j ≠ 11 → ct ya j = 0 := fun j j0 j1 j2 => by rw [h7 j j0 j1, if_neg j2]
  refine ⟨h1, o1, by rw [h2]; exact h3, by rw [h2]; exact o2, ⟨by decide, by decide⟩, ⟨e 2 (by decide) (by decide) (by decide), e 3 (by decide) (by decide) (by decide), e 4 (by decide) (by decide) (by decide), e 5 (by decide) (by decide) (by decide), e 6 (by decide) (by decide) (by decide), e 7 (by decide) (by decide) (by decide), e 8 (by decide) (by decide) (by decide), e 9 (by decide) (by decide) (by decide)⟩, ⟨h7 11 (by decide) (by decide), fun z => absurd rfl z⟩, fun k k0 k1 => ?_⟩
  have : pl0 0 = 0 := rfl
  omega
theorem NY.lr {sz : Int} {im : Int → aIm} {ct : Int → Int → Int} {ya la ha : Int} {own N : Int → Int} (h : NY sz im ct ya la ha) (o : ∀ x, la ≤ x → x ≤ la + 5 → own x = -1) : LR own sz im ct la pl0 N := by
  obtain ⟨-, ⟨m0, m1, b0, b1, b2, b3, b4, b5⟩, ⟨h5, h6⟩, -⟩ := h
  have e1 : pl0 1 = 0 := rfl
  have e2 : pl0 2 = 0 := rfl
  have i0 := m1 0 (by decide) (by decide)
  rw [Int.add_zero] at i0
  unfold LR
  rw [i0, m1 1 (by decide) (by decide), m1 2 (by decide) (by decide), m1 3 (by decide) (by decide), m1 4 (by decide) (by decide), e1, e2]
  exact ⟨m0, ⟨b0, b1, b2, b3, b4⟩, ⟨o _ (by omega) (by omega), o _ (by omega) (by omega), o _ (by omega) (by omega), o _ (by omega) (by omega), o _ (by omega) (by omega), o _ (by omega) (by omega)⟩, ⟨h5, h6⟩, by omega, fun q q0 q1 => by omega, fun d d0 d1 => by omega⟩
