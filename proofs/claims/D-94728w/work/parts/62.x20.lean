set_option maxRecDepth 100000
/-! operations, 13: richest, even -/
/-- most honey of a frame among the first k -/
def moF (c : Int → Int) : Nat → Int
  | 0 => -1
  | k + 1 => harN (ricF c (k + 1)) 16 c
theorem ric_gt {c : Int → Int} {j : Nat} (hp : 0 ≤ harN j 16 c) (h : moF c j < harN j 16 c) : ricF c (j + 1) = j ∧ moF c (j + 1) = harN j 16 c := by
  cases j with
  | zero =>
    have e : ricF c (0 + 1) = ((0 : Nat) : Int) := by simp [ricF]
    refine ⟨e, ?_⟩
    show harN (ricF c (0 + 1)) 16 c = _
    rw [e]
  | succ k =>
    have e : ricF c (k + 1 + 1) = ((k + 1 : Nat) : Int) := by
      show (if harN (ricF c (k + 1)) 16 c < harN (k + 1 : Nat) 16 c then ((k + 1 : Nat) : Int) else ricF c (k + 1)) = _
      exact if_pos h
    refine ⟨e, ?_⟩
    show harN (ricF c (k + 1 + 1)) 16 c = _
    rw [e]
theorem ric_le {c : Int → Int} {j : Nat} (hp : 0 ≤ harN j 16 c) (h : ¬ moF c j < harN j 16 c) : ricF c (j + 1) = ricF c j ∧ moF c (j + 1) = moF c j := by
  cases j with
  | zero => exact absurd (show (-1 : Int) < harN (0 : Nat) 16 c by omega) h
  | succ k =>
    have e : ricF c (k + 1 + 1) = ricF c (k + 1) := by
      show (if harN (ricF c (k + 1)) 16 c < harN (k + 1 : Nat) 16 c then ((k + 1 : Nat) : Int) else ricF c (k + 1)) = _
      exact if_neg h
    refine ⟨e, ?_⟩
    show harN (ricF c (k + 1 + 1)) 16 c = harN (ricF c (k + 1)) 16 c
    rw [e]
theorem moF_bd {c : Int → Int} {n : Int} {k : Nat} (r : rgF n c) (hn : 1 ≤ n) (hk : (k : Int) ≤ n) : -1 ≤ moF c k ∧ moF c k ≤ 1600 := by
  cases k with
  | zero => exact ⟨Int.le_refl _, by show (-1 : Int) ≤ 1600; omega⟩
  | succ k =>
    have h1 := ricF_bd (c := c) (k := k + 1)
    have h2 := harN_bd (f := ricF c (k + 1)) (k := 16) r (by omega) (by omega) (by omega)
    show -1 ≤ harN (ricF c (k + 1)) 16 c ∧ harN (ricF c (k + 1)) 16 c ≤ 1600
    omega
theorem ev_bd {s : Int → Int} {l : Int} (HP : PI s) (hl : 0 ≤ l) {k : Nat} (hk : (k : Int) ≤ s 0) : (0 ≤ isum (hoK s) k ∧ isum (hoK s) k ≤ 76800) ∧ (0 ≤ isum (fun k => max 0 (hoK s k - l)) k ∧ isum (fun k => max 0 (hoK s k - l)) k ≤ 76800) ∧ (0 ≤ isum (fun k => max 0 (hoK s k - l - 1)) k ∧ isum (fun k => max 0 (hoK s k - l - 1)) k ≤ 76800) ∧ (0 ≤ isum (fun k => if l < hoK s k then (1 : Int) else 0) k ∧ isum (fun k => if l < hoK s k then (1 : Int) else 0) k ≤ 4) := by
  have b0 := HP.1
  have q := fun (i : Int) (i0 : 0 ≤ i) (i1 : i < k) => hoK_bd (k := i) HP i0 (by omega)
  have h1 := isum_bd (g := hoK s) (B := 19200) (n := k) q
  have h2 := isum_bd (g := fun k => max 0 (hoK s k - l)) (B := 19200) (n := k) fun i i0 i1 => by
    have q := q i i0 i1
    try dsimp only
    omega
  have h3 := isum_bd (g := fun k => max 0 (hoK s k - l - 1)) (B := 19200) (n := k) fun i i0 i1 => by
    have q := q i i0 i1
    try dsimp only
    omega
  have h4 := isum_bd (g := fun k => if l < hoK s k then (1 : Int) else 0) (B := 1) (n := k) fun i i0 i1 => by
    try dsimp only
    split <;> omega
  omega
theorem L_m_hIn {ct : Int → Int → Int} {c : Int → Int} {p f n : Int} {Q : aPost} {d kc ks : Nat} (hc : ∀ j : Int, 0 ≤ j → j < 16 → ct 1 (p + j) = c (16 * f + j)) (rg : rgF n c) (f0 : 0 ≤ f ∧ f < n) (hn : n ≤ 12) (hp : 0 ≤ p ∧ p + 16 ≤ 7578) (hQ : Q (.inl (some (vI (harN f 16 c)))) (gM ct)) : ∀ (r j : Nat) (q : Int), q = p + j → j + r = 16 → AW (mq Q) md_X7_honeyIn d kc ks 4 [some (vR 0), some (vI p), some (vI (harN f j c)), some (vI q)] [] (gM ct) := by
  intro r
  induction r with
  | zero =>
    intro j q h0 h1
    have ej : j = 16 := by omega
    subst ej
    refine aw_iload_n dX7_honeyIn_4 rfl ?_
    refine aw_iload_n dX7_honeyIn_5 rfl ?_
    refine aw_bipush dX7_honeyIn_6 (by decide) ?_
    refine aw_iaddr dX7_honeyIn_8 (by omega) ?_
    refine aw_icmpge (tgt := 42) dX7_honeyIn_9 (by decide) (fun h9 => ?_) (fun h9 => ?_)
    · refine aw_iload_n dX7_honeyIn_42 rfl ?_
      refine aw_ireturn dX7_honeyIn_43 rfl ?_
      exact hQ
    · exfalso; omega
  | succ r ih =>
    intro j q h0 h1
    subst h0
    have hv := rg (16 * f + j) (by omega) (by omega)
    have e0 := hc j (by omega) (by omega)
    have hb2 := harN_bd (k := j) rg f0.1 f0.2 (by omega)
    have es : harN f (j + 1) c = harN f j c + sv 0 (c (16 * f + j)) := rfl
    have ih := ih (j + 1) (p + j + 1) (by omega) (by omega)
    rw [es] at ih
    refine aw_iload_n dX7_honeyIn_4 rfl ?_
    refine aw_iload_n dX7_honeyIn_5 rfl ?_
    refine aw_bipush dX7_honeyIn_6 (by decide) ?_
    refine aw_iaddr dX7_honeyIn_8 (by omega) ?_
    refine aw_icmpge (tgt := 42) dX7_honeyIn_9 (by decide) (fun h9 => ?_) (fun h9 => ?_)
    · exfalso; omega
    · first
        | (exfalso; omega)
        | skip
          refine aw_iload_n dX7_honeyIn_12 rfl ?_
          refine gm_7 rfl dX7_honeyIn_13 dX7_honeyIn_14 rfl ?_
          refine aw_iload_n dX7_honeyIn_17 rfl ?_
          refine aw_iaload dX7_honeyIn_18 m_a1 (by omega) (by omega) ?_
          rw [e0]
          refine aw_bipush dX7_honeyIn_19 (by decide) ?_
          refine aw_icmpgt (tgt := 33) dX7_honeyIn_21 (by decide) (fun h21 => ?_) (fun h21 => ?_)
          · first
              | (exfalso; omega)
              | skip
                refine aw_iconst dX7_honeyIn_33 (by decide) ?_
                refine aw_iaddr dX7_honeyIn_34 (by omega) ?_
                refine aw_istore2 dX7_honeyIn_35 (by decide) rfl ?_
                refine aw_iinc3r dX7_honeyIn_36 (by decide) (by decide) rfl (by omega) ?_
                refine aw_goto (tgt := 4) dX7_honeyIn_39 (by decide) ?_
                first
                  | (rw [show sv 0 (c (16 * f + j)) = 0 by unfold sv; rw [if_pos rfl]; exact if_neg (by omega)] at ih
                     exact ih)
                  | (rw [show sv 0 (c (16 * f + j)) = c (16 * f + j) by unfold sv; rw [if_pos rfl, if_pos (by omega)]] at ih
                     exact ih)
          · first
              | (exfalso; omega)
              | skip
                refine gm_7 rfl dX7_honeyIn_24 dX7_honeyIn_25 rfl ?_
                refine aw_iload_n dX7_honeyIn_28 rfl ?_
                refine aw_iaload dX7_honeyIn_29 m_a1 (by omega) (by omega) ?_
                rw [e0]
                refine aw_goto (tgt := 34) dX7_honeyIn_30 (by decide) ?_
                refine aw_iaddr dX7_honeyIn_34 (by omega) ?_
                refine aw_istore2 dX7_honeyIn_35 (by decide) rfl ?_
                refine aw_iinc3r dX7_honeyIn_36 (by decide) (by decide) rfl (by omega) ?_
                refine aw_goto (tgt := 4) dX7_honeyIn_39 (by decide) ?_
                first
                  | (rw [show sv 0 (c (16 * f + j)) = 0 by unfold sv; rw [if_pos rfl]; exact if_neg (by omega)] at ih
                     exact ih)
                  | (rw [show sv 0 (c (16 * f + j)) = c (16 * f + j) by unfold sv; rw [if_pos rfl, if_pos (by omega)]] at ih
                     exact ih)
theorem C_m_honeyIn {ct : Int → Int → Int} {c : Int → Int} {p f n : Int} {Q : aPost} (hc : ∀ j : Int, 0 ≤ j → j < 16 → ct 1 (p + j) = c (16 * f + j)) (rg : rgF n c) (f0 : 0 ≤ f ∧ f < n) (hn : n ≤ 12) (hp : 0 ≤ p ∧ p + 16 ≤ 7578) (hQ : Q (.inl (some (vI (harN f 16 c)))) (gM ct)) : AMet md_X7_honeyIn 2 0 0 [vR 0, vI p] (gM ct) Q := by
  refine AMet.go (L := [some (vR 0), some (vI p), none, none]) mok_X7_honeyIn (Nat.le_of_ble_eq_true rfl) rfl ?_
  refine aw_iconst dX7_honeyIn_0 (by decide) ?_
  refine aw_istore2 dX7_honeyIn_1 (by decide) rfl ?_
  refine aw_iload_n dX7_honeyIn_2 rfl ?_
  refine aw_istore3 dX7_honeyIn_3 (by decide) rfl ?_
  exact L_m_hIn hc rg f0 hn hp hQ 16 0 _ (by omega) (by omega)
theorem L_x_ricI {own : Int → Int} {sz : Int} {im : Int → aIm} {ct ct0 ct2 : Int → Int → Int} {a hv n dd : Int} {s N c : Int → Int} {Q : aPost} {d kc ks : Nat} {b : Int} {x2 x3 : Int} (hd : 4 ≤ d) (hR : RT own sz im ct0) (HY : YR own 0 sz im ct2 10 s dd N) (h4 : 0 ≤ a ∧ a < 4) (ehv : ct ((im 10).2.2 1) a = hv) (g1 : HvS sz im hv n) (g2 : HvC sz im ct hv n c) (rg : rgF n c) (b0 : 0 ≤ b ∧ b < n) (K : ∀ x6 : Option aV, AW (mq Q) md_X0_richest d kc ks 109 [some (vR 0), some (vI a), some (vI x2), some (vI x3), some (vI b), some (vI (harN b 16 c)), x6] [] (sz, im, ct)) : ∀ (r j : Nat), j + r = 16 → AW (mq Q) md_X0_richest d kc ks 53 [some (vR 0), some (vI a), some (vI x2), some (vI x3), some (vI b), some (vI (harN b j c)), some (vI j)] [] (sz, im, ct) := by
  have hn1 := g1.2.2.2.1
  have hn2 := g1.2.2.2.2
  have hA := g2.2.1 b b0.1 b0.2
  intro r
  induction r with
  | zero =>
    intro j h1
    have ej : j = 16 := by omega
    subst ej
    refine aw_iload dX0_richest_53 rfl ?_
    refine aw_bipush dX0_richest_55 (by decide) ?_
    refine aw_icmpge (tgt := 109) dX0_richest_57 (by decide) (fun h57 => ?_) (fun h57 => ?_)
    · exact K _
    · exfalso; omega
  | succ r ih =>
    intro j h1
    have hv9 := rg (16 * b + j) (by omega) (by omega)
    have e0 : ct (ct ((im hv).2.2 1) b) j = c (16 * b + j) := g2.2.2.2 b j b0.1 b0.2 (by omega) (by omega)
    have hb2 := harN_bd (k := j) rg b0.1 b0.2 (by omega)
    have es : harN b (j + 1) c = harN b j c + sv 0 (c (16 * b + j)) := rfl
    have ih := ih (j + 1) (by omega)
    rw [es] at ih
    refine aw_iload dX0_richest_53 rfl ?_
    refine aw_bipush dX0_richest_55 (by decide) ?_
    refine aw_icmpge (tgt := 109) dX0_richest_57 (by decide) (fun h57 => ?_) (fun h57 => ?_)
    · exfalso; omega
    · first
        | (exfalso; omega)
        | skip
          refine aw_iload dX0_richest_60 rfl ?_
          refine aw_aload_n dX0_richest_62 rfl ?_
          refine aw_iload_n dX0_richest_63 rfl ?_
          refine c_X0_172 rfl dX0_richest_64 hR.o0 (Nat.le_of_ble_eq_true rfl) (by omega) (C_x_xat2 (a := hv) hR HY h4 ehv ?_)
          refine aK_i ?_
          refine g_X0_176_9 rfl dX0_richest_67 g1.1 ?_
          refine aw_iload dX0_richest_70 rfl ?_
          refine aw_aaload dX0_richest_72 g1.2.1 (by decide) (by omega) (by omega) ?_
          refine aw_iload dX0_richest_73 rfl ?_
          refine aw_saload dX0_richest_75 hA (by omega) (by omega) ?_
          rw [e0]
          refine c_X0_390 rfl dX0_richest_76  (Nat.le_of_ble_eq_true rfl) (by omega) (C_x_isHoney (fun hh => ?_) (fun hh => ?_))
          · first
              | (exfalso; omega)
              | skip
                refine aK_i ?_
                refine aw_ifeq (tgt := 99) dX0_richest_79 (by decide) (fun h => absurd h (by decide)) (fun _ => ?_)
                refine aw_aload_n dX0_richest_82 rfl ?_
                refine aw_iload_n dX0_richest_83 rfl ?_
                refine c_X0_172 rfl dX0_richest_84 hR.o0 (Nat.le_of_ble_eq_true rfl) (by omega) (C_x_xat2 (a := hv) hR HY h4 ehv ?_)
                refine aK_i ?_
                refine g_X0_176_9 rfl dX0_richest_87 g1.1 ?_
                refine aw_iload dX0_richest_90 rfl ?_
                refine aw_aaload dX0_richest_92 g1.2.1 (by decide) (by omega) (by omega) ?_
                refine aw_iload dX0_richest_93 rfl ?_
                refine aw_saload dX0_richest_95 hA (by omega) (by omega) ?_
                rw [e0]
                refine aw_goto (tgt := 100) dX0_richest_96 (by decide) ?_
                refine aw_iaddr dX0_richest_100 (by omega) ?_
                refine aw_istore5 dX0_richest_101 (by decide) rfl ?_
                refine aw_iinc6r dX0_richest_103 (by decide) (by decide) rfl (by omega) ?_
                refine aw_goto (tgt := 53) dX0_richest_106 (by decide) ?_
                first
                  | (rw [show sv 0 (c (16 * b + j)) = 0 by unfold sv; rw [if_pos rfl]; split <;> omega] at ih; exact ih)
                  | (rw [show sv 0 (c (16 * b + j)) = c (16 * b + j) by unfold sv; rw [if_pos rfl, if_pos (by omega)]] at ih; exact ih)
          · first
              | (exfalso; omega)
              | skip
                refine aK_i ?_
                refine aw_ifeq (tgt := 99) dX0_richest_79 (by decide) (fun _ => ?_) (fun h => absurd h (by decide))
                refine aw_iconst dX0_richest_99 (by decide) ?_
                refine aw_iaddr dX0_richest_100 (by omega) ?_
                refine aw_istore5 dX0_richest_101 (by decide) rfl ?_
                refine aw_iinc6r dX0_richest_103 (by decide) (by decide) rfl (by omega) ?_
                refine aw_goto (tgt := 53) dX0_richest_106 (by decide) ?_
                first
                  | (rw [show sv 0 (c (16 * b + j)) = 0 by unfold sv; rw [if_pos rfl]; split <;> omega] at ih; exact ih)
                  | (rw [show sv 0 (c (16 * b + j)) = c (16 * b + j) by unfold sv; rw [if_pos rfl, if_pos (by omega)]] at ih; exact ih)
theorem L_x_ric {own : Int → Int} {sz : Int} {im : Int → aIm} {ct ct0 ct2 : Int → Int → Int} {a hv n dd : Int} {s N c : Int → Int} {Q : aPost} {d kc ks : Nat} (hd : 4 ≤ d) (hR : RT own sz im ct0) (HY : YR own 0 sz im ct2 10 s dd N) (h4 : 0 ≤ a ∧ a < 4) (ehv : ct ((im 10).2.2 1) a = hv) (g1 : HvS sz im hv n) (g2 : HvC sz im ct hv n c) (rg : rgF n c) (K : ∀ (x3 x4 : Int) (x5 x6 : Option aV), AW (mq Q) md_X0_richest d kc ks 130 [some (vR 0), some (vI a), some (vI (ricF c n.toNat)), some (vI x3), some (vI x4), x5, x6] [] (sz, im, ct)) : ∀ (r j : Nat) (x5 x6 : Option aV), (j : Int) + r = n → AW (mq Q) md_X0_richest d kc ks 33 [some (vR 0), some (vI a), some (vI (ricF c j)), some (vI (moF c j)), some (vI j), x5, x6] [] (sz, im, ct) := by
  have hn1 := g1.2.2.2.1
  have hn2 := g1.2.2.2.2
  intro r
  induction r with
  | zero =>
    intro j x5 x6 h1
    have ej : n.toNat = j := by omega
    rw [ej] at K
    refine aw_iload dX0_richest_33 rfl ?_
    refine aw_aload_n dX0_richest_35 rfl ?_
    refine aw_iload_n dX0_richest_36 rfl ?_
    refine c_X0_172 rfl dX0_richest_37 hR.o0 (Nat.le_of_ble_eq_true rfl) (by omega) (C_x_xat2 (a := hv) hR HY h4 ehv ?_)
    refine aK_i ?_
    refine g_X0_176_9 rfl dX0_richest_40 g1.1 ?_
    refine aw_alen dX0_richest_43 g1.2.1 ?_
    refine aw_icmpge (tgt := 130) dX0_richest_44 (by decide) (fun h44 => ?_) (fun h44 => ?_)
    · exact K _ _ _ _
    · exfalso; omega
  | succ r ih =>
    intro j x5 x6 h1
    have hm := moF_bd (k := j) rg hn1 (by omega)
    have hh := harN_bd (f := (j : Int)) (k := 16) rg (by omega) (by omega) (by omega)
    have ih := fun x5 x6 => ih (j + 1) x5 x6 (by omega)
    refine aw_iload dX0_richest_33 rfl ?_
    refine aw_aload_n dX0_richest_35 rfl ?_
    refine aw_iload_n dX0_richest_36 rfl ?_
    refine c_X0_172 rfl dX0_richest_37 hR.o0 (Nat.le_of_ble_eq_true rfl) (by omega) (C_x_xat2 (a := hv) hR HY h4 ehv ?_)
    refine aK_i ?_
    refine g_X0_176_9 rfl dX0_richest_40 g1.1 ?_
    refine aw_alen dX0_richest_43 g1.2.1 ?_
    refine aw_icmpge (tgt := 130) dX0_richest_44 (by decide) (fun h44 => ?_) (fun h44 => ?_)
    · exfalso; omega
    · refine aw_iconst dX0_richest_47 (by decide) ?_
      refine aw_istore5 dX0_richest_48 (by decide) rfl ?_
      refine aw_iconst dX0_richest_50 (by decide) ?_
      refine aw_istore6 dX0_richest_51 (by decide) rfl ?_
      refine L_x_ricI (b := (j : Int)) (by omega) hR HY h4 ehv g1 g2 rg (by omega) (fun x6 => ?_) 16 0 (by omega)
      refine aw_iload dX0_richest_109 rfl ?_
      refine aw_iload_n dX0_richest_111 rfl ?_
      refine aw_icmpgt (tgt := 118) dX0_richest_112 (by decide) (fun h112 => ?_) (fun h112 => ?_)
      · refine aw_iload dX0_richest_118 rfl ?_
        refine aw_istore3 dX0_richest_120 (by decide) rfl ?_
        refine aw_iload dX0_richest_121 rfl ?_
        refine aw_istore2 dX0_richest_123 (by decide) rfl ?_
        refine aw_iinc4r dX0_richest_124 (by decide) (by decide) rfl (by omega) ?_
        refine aw_goto (tgt := 33) dX0_richest_127 (by decide) ?_
        first
          | (have e := ric_gt hh.1 (by omega)
             rw [e.1, e.2] at ih
             exact ih _ _)
          | (have e := ric_le hh.1 (by omega)
             rw [e.1, e.2] at ih
             exact ih _ _)
      · refine aw_goto (tgt := 124) dX0_richest_115 (by decide) ?_
        refine aw_iinc4r dX0_richest_124 (by decide) (by decide) rfl (by omega) ?_
        refine aw_goto (tgt := 33) dX0_richest_127 (by decide) ?_
        first
          | (have e := ric_gt hh.1 (by omega)
             rw [e.1, e.2] at ih
             exact ih _ _)
          | (have e := ric_le hh.1 (by omega)
             rw [e.1, e.2] at ih
             exact ih _ _)
theorem L_m_ric {ct : Int → Int → Int} {a : Int} {Q : aPost} {d kc ks : Nat} (hd : 3 ≤ d) (ha : 0 ≤ a ∧ a < 4) (hn : 1 ≤ ct 1 (64 + 198 * a) ∧ ct 1 (64 + 198 * a) ≤ 12) (rg : rgF (ct 1 (64 + 198 * a)) (sh (64 + 198 * a) (ct 1))) (K : ∀ x3 : Int, AW (mq Q) md_X7_richest d kc ks 62 [some (vR 0), some (vI a), some (vI (ricF (sh (64 + 198 * a) (ct 1)) (ct 1 (64 + 198 * a)).toNat)), some (vI x3)] [] (gM ct)) : ∀ (r j : Nat) (x2 : Int), x2 = ricF (sh (64 + 198 * a) (ct 1)) j → (j : Int) + r = ct 1 (64 + 198 * a) → AW (mq Q) md_X7_richest d kc ks 18 [some (vR 0), some (vI a), some (vI x2), some (vI j)] [] (gM ct) := by
  intro r
  induction r with
  | zero =>
    intro j x2 h0 h1
    subst h0
    have ej : (ct 1 (64 + 198 * a)).toNat = j := by omega
    rw [ej] at K
    refine aw_iload_n dX7_richest_18 rfl ?_
    refine gm_7 rfl dX7_richest_19 dX7_richest_20 rfl ?_
    refine aw_iload_n dX7_richest_23 rfl ?_
    refine c_X7_217 rfl dX7_richest_24  (Nat.le_of_ble_eq_true rfl) (by omega) (C_m_hiveRow (by omega) ?_)
    refine aK_i ?_
    refine aw_iaload dX7_richest_27 m_a1 (by omega) (by omega) ?_
    refine aw_icmpge (tgt := 62) dX7_richest_28 (by decide) (fun h28 => ?_) (fun h28 => ?_)
    · exact K _
    · exfalso; omega
  | succ r ih =>
    intro j x2 h0 h1
    subst h0
    have hr9 := ricF_bd (c := sh (64 + 198 * a) (ct 1)) (k := j)
    have h1b := harN_bd (f := (j : Int)) (k := 16) rg (by omega) (by omega) (by omega)
    have h2b := harN_bd (f := ricF (sh (64 + 198 * a) (ct 1)) j) (k := 16) rg (by omega) (by omega) (by omega)
    have ih := ih (j + 1) _ rfl (by omega)
    have es : ricF (sh (64 + 198 * a) (ct 1)) (j + 1) = if harN (ricF (sh (64 + 198 * a) (ct 1)) j) 16 (sh (64 + 198 * a) (ct 1)) < harN j 16 (sh (64 + 198 * a) (ct 1)) then (j : Int) else ricF (sh (64 + 198 * a) (ct 1)) j := rfl
    refine aw_iload_n dX7_richest_18 rfl ?_
    refine gm_7 rfl dX7_richest_19 dX7_richest_20 rfl ?_
    refine aw_iload_n dX7_richest_23 rfl ?_
    refine c_X7_217 rfl dX7_richest_24  (Nat.le_of_ble_eq_true rfl) (by omega) (C_m_hiveRow (by omega) ?_)
    refine aK_i ?_
    refine aw_iaload dX7_richest_27 m_a1 (by omega) (by omega) ?_
    refine aw_icmpge (tgt := 62) dX7_richest_28 (by decide) (fun h28 => ?_) (fun h28 => ?_)
    · exfalso; omega
    · refine aw_aload_n dX7_richest_31 rfl ?_
      refine aw_aload_n dX7_richest_32 rfl ?_
      refine aw_iload_n dX7_richest_33 rfl ?_
      refine aw_iload_n dX7_richest_34 rfl ?_
      refine c_X7_301 rfl dX7_richest_35 m_ob (Nat.le_of_ble_eq_true rfl) (by omega) (C_m_frameRow (by omega) (by omega) ?_)
      refine aK_i ?_
      refine c_X7_358 rfl dX7_richest_38 m_ob (Nat.le_of_ble_eq_true rfl) (by omega) (C_m_honeyIn (c := sh (64 + 198 * a) (ct 1)) (f := (j : Int)) (fun i i0 i1 => by unfold sh; rw [show 64 + 198 * a + 6 + 16 * (j : Int) + i = 64 + 198 * a + 6 + (16 * (j : Int) + i) by omega]) rg (by omega) (by omega) (by omega) ?_)
      refine aK_i ?_
      refine aw_aload_n dX7_richest_41 rfl ?_
      refine aw_aload_n dX7_richest_42 rfl ?_
      refine aw_iload_n dX7_richest_43 rfl ?_
      refine aw_iload_n dX7_richest_44 rfl ?_
      refine c_X7_301 rfl dX7_richest_45 m_ob (Nat.le_of_ble_eq_true rfl) (by omega) (C_m_frameRow (by omega) (by omega) ?_)
      refine aK_i ?_
      refine c_X7_358 rfl dX7_richest_48 m_ob (Nat.le_of_ble_eq_true rfl) (by omega) (C_m_honeyIn (c := sh (64 + 198 * a) (ct 1)) (f := ricF (sh (64 + 198 * a) (ct 1)) j) (fun i i0 i1 => by unfold sh; rw [show 64 + 198 * a + 6 + 16 * (ricF (fun k => ct 1 (64 + 198 * a + 6 + k)) j) + i = 64 + 198 * a + 6 + (16 * (ricF (fun k => ct 1 (64 + 198 * a + 6 + k)) j) + i) by omega]) rg (by omega) (by omega) (by omega) ?_)
      refine aK_i ?_
      refine aw_icmple (tgt := 56) dX7_richest_51 (by decide) (fun h51 => ?_) (fun h51 => ?_)
      · refine aw_iinc3r dX7_richest_56 (by decide) (by decide) rfl (by omega) ?_
        refine aw_goto (tgt := 18) dX7_richest_59 (by decide) ?_
        first
          | (rw [es, if_pos (by omega)] at ih; exact ih)
          | (rw [es, if_neg (by omega)] at ih; exact ih)
      · refine aw_iload_n dX7_richest_54 rfl ?_
        refine aw_istore2 dX7_richest_55 (by decide) rfl ?_
        refine aw_iinc3r dX7_richest_56 (by decide) (by decide) rfl (by omega) ?_
        refine aw_goto (tgt := 18) dX7_richest_59 (by decide) ?_
        first
          | (rw [es, if_pos (by omega)] at ih; exact ih)
          | (rw [es, if_neg (by omega)] at ih; exact ih)
theorem OP_richest {sz : Int} {im : Int → aIm} {ct cm : Int → Int → Int} (h : XR (sz, im, ct) cm) {a : Int} (r0 : -2147483648 ≤ a ∧ a < 2147483648)  : AMet md_X0_richest 4 0 0 [vR 0, vI a] (sz, im, ct) (XQ md_X7_richest 4 [vR 0, vI a] cm) := by
  obtain ⟨own, N, hR, HY, HL, HN, HS, HP, HF, HX, hv2, hv3, hv4⟩ := id h
  dsimp only at hR HY HL HS HX hv2 hv3 hv4
  have hp0 := HP.1
  have hp3 := HP.2.1
  have hpq := HP.2.2.2.1.1
  have hps := HP.2.2.2.2.2
  refine AMet.go (L := [some (vR 0), some (vI a), none, none, none, none, none]) mok_X0_richest (Nat.le_of_ble_eq_true rfl) rfl ?_
  refine aw_aload_n dX0_richest_0 rfl ?_
  refine aw_aload_n dX0_richest_1 rfl ?_
  refine aw_iload_n dX0_richest_2 rfl ?_
  refine c_X0_168 rfl dX0_richest_3 hR.o0 (Nat.le_of_ble_eq_true rfl) (by omega) (C_x_isHive hR HY (fun xh => ?_) (fun xh => ?_))
  · refine aK_i ?_
    refine aw_ifeq (tgt := 13) dX0_richest_6 (by decide) (fun h => absurd h (by decide)) (fun _ => ?_)
    refine aw_iconst dX0_richest_9 (by decide) ?_
    refine aw_goto (tgt := 14) dX0_richest_10 (by decide) ?_
    refine p_X0_73_0 rfl dX0_richest_14 hR.o0 ?_
    refine aw_aload_n dX0_richest_17 rfl ?_
    refine g_X0_73_0 rfl dX0_richest_18 hR.o0 ?_
    repeat (first | rw [aup_s] | rw [aup_n (by omega)])
    refine aw_ifle (tgt := 26) dX0_richest_21 (by decide) (fun _ => ?_) (fun h => absurd h (by decide))
    refine aw_iconst dX0_richest_26 (by decide) ?_
    refine aw_istore2 dX0_richest_27 (by decide) rfl ?_
    refine aw_iconst dX0_richest_28 (by decide) ?_
    refine aw_istore3 dX0_richest_29 (by decide) rfl ?_
    obtain ⟨hv, ehv, ⟨g1, g2, ⟨g3, g4, g5, g6, g7⟩, g8, g9, -⟩, nhv0, nhv10, nhv9, nv0, nvhv, nv10, ohv⟩ := (HY.up0 (j := 7) (v := 0) hR.1.2 (by decide)).hv (hR.up0 (j := 7) (v := 0)) (k := a) (by omega) (by omega)
    have gn := g1.2.2.2
    have gh := HP.2.2.1 a (by omega) (by omega)
    have gq := gh.2.2.2.2.1
    have gp := HP.pd.2.1 a (by omega) (by omega)
    refine aw_iconst dX0_richest_30 (by decide) ?_
    refine aw_istore4 dX0_richest_31 (by decide) rfl ?_
    have hrb := ricF_bd (c := sh (64 + 198 * a) (cm 1)) (k := (cm 1 (64 + 198 * a)).toNat)
    refine L_x_ric (a := a) (by omega) hR HY (by omega) ehv g1 g2 gh.2.1 (fun x3 x4 x5 x6 => ?_) (cm 1 (64 + 198 * a)).toNat 0 _ _ (by omega)
    refine aw_iload_n dX0_richest_130 rfl ?_
    refine aw_ireturn dX0_richest_131 rfl ?_
    refine ⟨_, rfl, ?_⟩
    refine AMet.go (L := [some (vR 0), some (vI a), none, none]) mok_X7_richest (Nat.le_of_ble_eq_true rfl) rfl ?_
    refine aw_aload_n dX7_richest_0 rfl ?_
    refine aw_iload_n dX7_richest_1 rfl ?_
    refine c_X7_274 rfl dX7_richest_2 m_ob (Nat.le_of_ble_eq_true rfl) (by omega) (C_m_isHive (fun hh => ?_) (fun hh => ?_))
    · first
        | (exfalso; omega)
        | skip
          refine aK_i ?_
          refine aw_ifne (tgt := 14) dX7_richest_5 (by decide) (fun _ => ?_) (fun h => absurd h (by decide))
          refine aw_iconst dX7_richest_14 (by decide) ?_
          refine aw_istore2 dX7_richest_15 (by decide) rfl ?_
          refine aw_iconst dX7_richest_16 (by decide) ?_
          refine aw_istore3 dX7_richest_17 (by decide) rfl ?_
          refine L_m_ric (a := a) (by omega) (by omega) gh.1 gh.2.1 (fun x3 => ?_) (cm 1 (64 + 198 * a) - 1).toNat 1 _ (by simp [ricF]) (by omega)
          refine aw_aload_n dX7_richest_62 rfl ?_
          refine aw_iload_n dX7_richest_63 rfl ?_
          refine c_X7_76 rfl dX7_richest_64 m_ob (Nat.le_of_ble_eq_true rfl) (by omega) (C_m_gives ?_)
          refine aK_i ?_
          refine aw_ireturn dX7_richest_67 rfl ?_
          first
            | (exfalso; omega)
            | (refine XR.sameE h ?_ ?_ ?_ ?_ ?_ ?_
               · first
                   | rfl
                   | omega
               · repeat (first | exact xs.rf | refine xs.up ?_ (by decide))
               · repeat (first | exact mss.rf | refine mss.up0 ?_ (by decide))
               · first
                   | (simp [aup, hv2, hv3, hv4]; done)
                   | (simp [aup, hv2, hv3, hv4]; omega)
               · simp [aup, hv2, hv3, hv4]
               · simp [aup, hv2, hv3, hv4])
    · first
        | (exfalso; omega)
        | skip
          refine aK_i ?_
          refine aw_ifne (tgt := 14) dX7_richest_5 (by decide) (fun h => absurd h (by decide)) (fun _ => ?_)
          refine aw_aload_n dX7_richest_8 rfl ?_
          refine aw_iconst dX7_richest_9 (by decide) ?_
          refine c_X7_72 rfl dX7_richest_10 m_ob (Nat.le_of_ble_eq_true rfl) (by omega) (C_m_refuse ?_)
          refine aK_i ?_
          refine aw_ireturn dX7_richest_13 rfl ?_
          first
            | (exfalso; omega)
            | (refine XR.sameE h ?_ ?_ ?_ ?_ ?_ ?_
               · first
                   | rfl
                   | omega
               · repeat (first | exact xs.rf | refine xs.up ?_ (by decide))
               · repeat (first | exact mss.rf | refine mss.up0 ?_ (by decide))
               · first
                   | (simp [aup, hv2, hv3, hv4]; done)
                   | (simp [aup, hv2, hv3, hv4]; omega)
               · simp [aup, hv2, hv3, hv4]
               · simp [aup, hv2, hv3, hv4])
  · refine aK_i ?_
    refine aw_ifeq (tgt := 13) dX0_richest_6 (by decide) (fun _ => ?_) (fun h => absurd h (by decide))
    refine aw_iconst dX0_richest_13 (by decide) ?_
    refine p_X0_73_0 rfl dX0_richest_14 hR.o0 ?_
    refine aw_aload_n dX0_richest_17 rfl ?_
    refine g_X0_73_0 rfl dX0_richest_18 hR.o0 ?_
    repeat (first | rw [aup_s] | rw [aup_n (by omega)])
    refine aw_ifle (tgt := 26) dX0_richest_21 (by decide) (fun h => absurd h (by decide)) (fun _ => ?_)
    refine aw_iconst dX0_richest_24 (by decide) ?_
    refine aw_ireturn dX0_richest_25 rfl ?_
    refine ⟨_, rfl, ?_⟩
    refine AMet.go (L := [some (vR 0), some (vI a), none, none]) mok_X7_richest (Nat.le_of_ble_eq_true rfl) rfl ?_
    refine aw_aload_n dX7_richest_0 rfl ?_
    refine aw_iload_n dX7_richest_1 rfl ?_
    refine c_X7_274 rfl dX7_richest_2 m_ob (Nat.le_of_ble_eq_true rfl) (by omega) (C_m_isHive (fun hh => ?_) (fun hh => ?_))
    · first
        | (exfalso; omega)
        | skip
          refine aK_i ?_
          refine aw_ifne (tgt := 14) dX7_richest_5 (by decide) (fun _ => ?_) (fun h => absurd h (by decide))
          refine aw_iconst dX7_richest_14 (by decide) ?_
          refine aw_istore2 dX7_richest_15 (by decide) rfl ?_
          refine aw_iconst dX7_richest_16 (by decide) ?_
          refine aw_istore3 dX7_richest_17 (by decide) rfl ?_
          refine L_m_ric (a := a) (by omega) (by omega) gh.1 gh.2.1 (fun x3 => ?_) (cm 1 (64 + 198 * a) - 1).toNat 1 _ (by simp [ricF]) (by omega)
          refine aw_aload_n dX7_richest_62 rfl ?_
          refine aw_iload_n dX7_richest_63 rfl ?_
          refine c_X7_76 rfl dX7_richest_64 m_ob (Nat.le_of_ble_eq_true rfl) (by omega) (C_m_gives ?_)
          refine aK_i ?_
          refine aw_ireturn dX7_richest_67 rfl ?_
          first
            | (exfalso; omega)
            | (refine XR.sameE h ?_ ?_ ?_ ?_ ?_ ?_
               · first
                   | rfl
                   | omega
               · repeat (first | exact xs.rf | refine xs.up ?_ (by decide))
               · repeat (first | exact mss.rf | refine mss.up0 ?_ (by decide))
               · first
                   | (simp [aup, hv2, hv3, hv4]; done)
                   | (simp [aup, hv2, hv3, hv4]; omega)
               · simp [aup, hv2, hv3, hv4]
               · simp [aup, hv2, hv3, hv4])
    · first
        | (exfalso; omega)
        | skip
          refine aK_i ?_
          refine aw_ifne (tgt := 14) dX7_richest_5 (by decide) (fun h => absurd h (by decide)) (fun _ => ?_)
          refine aw_aload_n dX7_richest_8 rfl ?_
          refine aw_iconst dX7_richest_9 (by decide) ?_
          refine c_X7_72 rfl dX7_richest_10 m_ob (Nat.le_of_ble_eq_true rfl) (by omega) (C_m_refuse ?_)
          refine aK_i ?_
          refine aw_ireturn dX7_richest_13 rfl ?_
          first
            | (exfalso; omega)
            | (refine XR.sameE h ?_ ?_ ?_ ?_ ?_ ?_
               · first
                   | rfl
                   | omega
               · repeat (first | exact xs.rf | refine xs.up ?_ (by decide))
               · repeat (first | exact mss.rf | refine mss.up0 ?_ (by decide))
               · first
                   | (simp [aup, hv2, hv3, hv4]; done)
                   | (simp [aup, hv2, hv3, hv4]; omega)
               · simp [aup, hv2, hv3, hv4]
               · simp [aup, hv2, hv3, hv4])
