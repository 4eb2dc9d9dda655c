set_option maxRecDepth 100000
/-! seasons: all steps, BeeYard -/
theorem seqF_end {f : Int → lvS → lvS} {s : Int → Int} {j : Int} {q : lvS} : ∀ {k : Nat}, seqF f s k j j q = q
  | 0 => rfl
  | k + 1 => by
    simp only [seqF]
    rw [if_pos (Or.inl (Int.le_refl _))]
theorem seqF_ov {f : Int → lvS → lvS} {s : Int → Int} {i j : Int} {q : lvS} (h : q.2.2.2.2.2.1 ≠ 0) : ∀ {k : Nat}, seqF f s k i j q = q
  | 0 => rfl
  | k + 1 => by
    simp only [seqF]
    rw [if_pos (Or.inr h)]
theorem seqF_st {f : Int → lvS → lvS} {s : Int → Int} {i j : Int} {q : lvS} {k : Nat} (h : i < j) (h0 : q.2.2.2.2.2.1 = 0) : seqF f s (k + 1) i j q = seqF f s k (nxF s i) j (f i q) := by
  simp only [seqF]
  rw [if_neg (by omega)]
theorem STs.nx {own : Int → Int} {sz : Int} {im : Int → aIm} {ct : Int → Int → Int} {s : Int → Int} {n : Nat} {o i j : Int} (h : STs own sz im ct s n o i j) : i < j ∧ nxF s i = j ∧ 0 ≤ i ∧ j ≤ 60 ∧ own o = -1 := by
  match n, h with
  | 0, h => exact False.elim h
  | n + 1, h =>
    obtain ⟨h1, h2, h3, h4⟩ := h
    rcases h4 with ⟨b1, b2, b3, -⟩ | ⟨g1, g2, g3, g4, g5, -⟩
    · have : s (860 + 6 * i) ≠ 18 ∧ s (860 + 6 * i) < 1700 := by
        rcases b3 with b | b | b | b | b | b | b <;> omega
      exact ⟨by omega, by unfold nxF; rw [if_neg (by omega)]; omega, h2, h3, h1⟩
    · have : s (860 + 6 * i) = 18 ∨ 1700 ≤ s (860 + 6 * i) := by
        rcases g1 with ⟨-, e, -⟩ | ⟨-, -, -, -, -, e⟩
        · exact Or.inl e
        · exact Or.inr (by omega)
      exact ⟨by omega, by unfold nxF; rw [if_pos this]; omega, h2, h3, h1⟩
theorem STs.cls {own : Int → Int} {sz : Int} {im : Int → aIm} {ct : Int → Int → Int} {s : Int → Int} {n : Nat} {o i j : Int} (h : STs own sz im ct s n o i j) : aob sz im o 12 ∨ aob sz im o 10 ∨ aob sz im o 11 := by
  match n, h with
  | 0, h => exact False.elim h
  | n + 1, h =>
    obtain ⟨h1, h2, h3, h4⟩ := h
    rcases h4 with ⟨b1, -⟩ | ⟨g1, -⟩
    · exact Or.inl b1
    · rcases g1 with ⟨e, -⟩ | ⟨e, -⟩
      · exact Or.inr (Or.inl e)
      · exact Or.inr (Or.inr e)
/-- what a block holds -/
def BLK (own : Int → Int) (sz : Int) (im : Int → aIm) (ct : Int → Int → Int) (s : Int → Int) (n : Nat) (b i j : Int) : Prop := (aob sz im b 10 ∨ aob sz im b 11) ∧ own b = -1 ∧ 0 ≤ i ∧ j ≤ 60 ∧
  ∃ (cap : Int) (p : Int → Int), aar sz im (ct b 0) 8 cap ∧ own (ct b 0) = -1 ∧ 0 ≤ ct b 1 ∧ ct b 1 ≤ cap ∧ p 0 = i ∧ p (ct b 1) = j ∧ ∀ k, 0 ≤ k → k < ct b 1 → STs own sz im ct s n (ct (ct b 0) k) (p k) (p (k + 1))
theorem p_up {own : Int → Int} {sz : Int} {im : Int → aIm} {ct : Int → Int → Int} {s : Int → Int} {n : Nat} {a m : Int} {p : Int → Int} (h : ∀ k, 0 ≤ k → k < m → STs own sz im ct s n (ct a k) (p k) (p (k + 1))) : ∀ (r : Nat) (k : Int), k + r = m → 0 ≤ k → p k + r ≤ p m
  | 0, k, e, _ => by
    have : k = m := by omega
    subst this
    omega
  | r + 1, k, e, k0 => by
    have := p_up h r (k + 1) (by omega) (by omega)
    have := (h k k0 (by omega)).nx.1
    omega
theorem XL.fix {own0 own1 : Int → Int} {sz : Int} {im : Int → aIm} {ct0 ct1 : Int → Int → Int} {y ya la l : Int} {s0 N : Int → Int} {q : lvS} (h : XL own0 own1 sz im ct0 ct1 y ya la l s0 N q) {x : Int} (hx : own0 x = -1) : ct1 x = ct0 x :=
  funext fun j => h.2.2.2.1 x j (by rw [hx]; exact tgY_m h.1.1 (by decide)) (fun z => by have := h.1.2.1; rw [z] at hx; omega)
theorem c_go_any {Z : aZ} {M : aMD} {d d' kc ks pc : Nat} {L : List (Option aV)} {st : List aV} {G : aG} {v0 : aV} {a : Int} (hM : M.1.cls = RX11) (hd : decode M.2.1 pc = .ok (.invokevirtual 29, 3)) (ho : aob G.1 G.2.1 a 12 ∨ aob G.1 G.2.1 a 10 ∨ aob G.1 G.2.1 a 11) (hw : stW st ≤ 8) (hdd : d' + 1 ≤ d) (hm : AMet md_X10_go d' 0 0 (vR a :: [v0]) G (aK Z M d kc ks pc L st)) : AW Z M d kc ks pc L (v0 :: vR a :: st) G := by
  rcases ho with h | h | h
  · exact c_go_12 hM hd h hw hdd hm
  · exact c_go_10 hM hd h hw hdd hm
  · exact c_go_11 hM hd h hw hdd hm
theorem L_x_all {own0 : Int → Int} {sz : Int} {im : Int → aIm} {ct0 : Int → Int → Int} {y ya la l : Int} {s0 N : Int → Int} {n : Nat} {b i0 j cap : Int} {p : Int → Int} {Q : aPost} {R : lvS} (H : ∀ {o i j : Int} {own1 : Int → Int} {ct1 : Int → Int → Int} {q : lvS} {Q : aPost}, STs own0 sz im ct0 s0 n o i j → XL own0 own1 sz im ct0 ct1 y ya la l s0 N q → (∀ (own2 : Int → Int) (ct2 : Int → Int → Int), XL own0 own2 sz im ct0 ct2 y ya la l s0 N (stepF s0 n i q) → Q (.inl none) (sz, im, ct2)) → AMet md_X10_go (10 + 4 * n) 0 0 [vR o, vR l] (sz, im, ct1) Q) (hb : aob sz im b 10 ∨ aob sz im b 11) (ob : own0 b = -1) (hi : 0 ≤ i0) (hj : j ≤ 60) (hA : aar sz im (ct0 b 0) 8 cap) (oA : own0 (ct0 b 0) = -1) (hm : 0 ≤ ct0 b 1 ∧ ct0 b 1 ≤ cap) (hp0 : p 0 = i0) (hpm : p (ct0 b 1) = j) (hS : ∀ k, 0 ≤ k → k < ct0 b 1 → STs own0 sz im ct0 s0 n (ct0 (ct0 b 0) k) (p k) (p (k + 1))) (K : ∀ (own2 : Int → Int) (ct2 : Int → Int → Int), XL own0 own2 sz im ct0 ct2 y ya la l s0 N R → Q (.inl none) (sz, im, ct2)) : ∀ (r : Nat) (k : Int) (fu : Nat) (own1 : Int → Int) (ct1 : Int → Int → Int) (q : lvS), k + r = ct0 b 1 → 0 ≤ k → (fu : Int) + k = 60 → i0 + k ≤ p k → seqF (stepF s0 n) s0 fu (p k) j q = R → XL own0 own1 sz im ct0 ct1 y ya la l s0 N q → AW (mq Q) md_X11_all (11 + 4 * n) 0 0 2 [some (vR b), some (vR l), some (vI k)] [] (sz, im, ct1) := by
  intro r
  induction r with
  | zero =>
    intro k fu own1 ct1 q h1 h2 h3 h4 hR hX
    have ek : k = ct0 b 1 := by omega
    subst ek
    rw [hpm, seqF_end] at hR
    subst hR
    have hfx := hX.fix ob
    have hV := hX.2.2.2.2.2.1
    rcases hb with hbc | hbc
    · refine aw_iload_n dX11_all_2 rfl ?_
      refine aw_aload_n dX11_all_3 rfl ?_
      refine g_X11_13_10 rfl dX11_all_4 hbc ?_
      rw [hfx]
      refine aw_icmpge (tgt := 33) dX11_all_7 (by decide) (fun h7 => ?_) (fun h7 => ?_)
      · refine aw_ret dX11_all_33 rfl ?_
        exact K _ _ hX
      · exfalso; omega
    · refine aw_iload_n dX11_all_2 rfl ?_
      refine aw_aload_n dX11_all_3 rfl ?_
      refine g_X11_13_11 rfl dX11_all_4 hbc ?_
      rw [hfx]
      refine aw_icmpge (tgt := 33) dX11_all_7 (by decide) (fun h7 => ?_) (fun h7 => ?_)
      · refine aw_ret dX11_all_33 rfl ?_
        exact K _ _ hX
      · exfalso; omega
  | succ r ih =>
    intro k fu own1 ct1 q h1 h2 h3 h4 hR hX
    have hfx := hX.fix ob
    have hfa := hX.fix oA
    have hV := hX.2.2.2.2.2.1
    have hLq := hX.2.2.2.2.2.2
    have hov := hLq.2.2.2.2.1
    have hSk := hS k h2 (by omega)
    have hk9 := hSk.cls
    have pu := p_up hS (r + 1) k (by omega) h2
    have nx := hSk.nx
    have hbA : aar sz im (ct0 b 0) 8 cap := hA
    obtain ⟨fu, rfl⟩ : ∃ g, fu = g + 1 := ⟨fu - 1, by omega⟩
    rcases hb with hbc | hbc
    · refine aw_iload_n dX11_all_2 rfl ?_
      refine aw_aload_n dX11_all_3 rfl ?_
      refine g_X11_13_10 rfl dX11_all_4 hbc ?_
      rw [hfx]
      refine aw_icmpge (tgt := 33) dX11_all_7 (by decide) (fun h7 => ?_) (fun h7 => ?_)
      · exfalso; omega
      · refine aw_aload_n dX11_all_10 rfl ?_
        refine g_X11_23_13 rfl dX11_all_11 hV.1.1 ?_
        rw [hV.2.2.2.2.2.1]
        refine aw_ifne (tgt := 33) dX11_all_14 (by decide) (fun h14 => ?_) (fun h14 => ?_)
        · rw [seqF_ov (by omega)] at hR
          subst hR
          refine aw_ret dX11_all_33 rfl ?_
          exact K _ _ hX
        · rw [seqF_st (by omega) (by omega), hSk.nx.2.1] at hR
          refine aw_aload_n dX11_all_17 rfl ?_
          refine g_X11_7_10 rfl dX11_all_18 hbc ?_
          rw [hfx]
          refine aw_iload_n dX11_all_21 rfl ?_
          refine aw_aaload dX11_all_22 hbA (by decide) (by omega) (by omega) ?_
          rw [hfa]
          refine aw_aload_n dX11_all_23 rfl ?_
          refine c_go_any rfl dX11_all_24 hk9 (Nat.le_of_ble_eq_true rfl) (by omega) (H hSk hX (fun own2 ct2 hX2 => ?_))
          refine aK_v ?_
          refine aw_iinc2r dX11_all_27 (by decide) (by decide) rfl (by omega) ?_
          refine aw_goto (tgt := 2) dX11_all_30 (by decide) ?_
          exact ih (k + 1) _ own2 ct2 _ (by omega) (by omega) (by omega) (by omega) hR hX2
    · refine aw_iload_n dX11_all_2 rfl ?_
      refine aw_aload_n dX11_all_3 rfl ?_
      refine g_X11_13_11 rfl dX11_all_4 hbc ?_
      rw [hfx]
      refine aw_icmpge (tgt := 33) dX11_all_7 (by decide) (fun h7 => ?_) (fun h7 => ?_)
      · exfalso; omega
      · refine aw_aload_n dX11_all_10 rfl ?_
        refine g_X11_23_13 rfl dX11_all_11 hV.1.1 ?_
        rw [hV.2.2.2.2.2.1]
        refine aw_ifne (tgt := 33) dX11_all_14 (by decide) (fun h14 => ?_) (fun h14 => ?_)
        · rw [seqF_ov (by omega)] at hR
          subst hR
          refine aw_ret dX11_all_33 rfl ?_
          exact K _ _ hX
        · rw [seqF_st (by omega) (by omega), hSk.nx.2.1] at hR
          refine aw_aload_n dX11_all_17 rfl ?_
          refine g_X11_7_11 rfl dX11_all_18 hbc ?_
          rw [hfx]
          refine aw_iload_n dX11_all_21 rfl ?_
          refine aw_aaload dX11_all_22 hbA (by decide) (by omega) (by omega) ?_
          rw [hfa]
          refine aw_aload_n dX11_all_23 rfl ?_
          refine c_go_any rfl dX11_all_24 hk9 (Nat.le_of_ble_eq_true rfl) (by omega) (H hSk hX (fun own2 ct2 hX2 => ?_))
          refine aK_v ?_
          refine aw_iinc2r dX11_all_27 (by decide) (by decide) rfl (by omega) ?_
          refine aw_goto (tgt := 2) dX11_all_30 (by decide) ?_
          exact ih (k + 1) _ own2 ct2 _ (by omega) (by omega) (by omega) (by omega) hR hX2
theorem C_x_all {own0 : Int → Int} {sz : Int} {im : Int → aIm} {ct0 : Int → Int → Int} {y ya la l : Int} {s0 N : Int → Int} {n : Nat} {b i j : Int} {own1 : Int → Int} {ct1 : Int → Int → Int} {q : lvS} {Q : aPost} (H : ∀ {o i j : Int} {own1 : Int → Int} {ct1 : Int → Int → Int} {q : lvS} {Q : aPost}, STs own0 sz im ct0 s0 n o i j → XL own0 own1 sz im ct0 ct1 y ya la l s0 N q → (∀ (own2 : Int → Int) (ct2 : Int → Int → Int), XL own0 own2 sz im ct0 ct2 y ya la l s0 N (stepF s0 n i q) → Q (.inl none) (sz, im, ct2)) → AMet md_X10_go (10 + 4 * n) 0 0 [vR o, vR l] (sz, im, ct1) Q) (hB : BLK own0 sz im ct0 s0 n b i j) (hX : XL own0 own1 sz im ct0 ct1 y ya la l s0 N q) (K : ∀ (own2 : Int → Int) (ct2 : Int → Int → Int), XL own0 own2 sz im ct0 ct2 y ya la l s0 N (seqF (stepF s0 n) s0 60 i j q) → Q (.inl none) (sz, im, ct2)) : AMet md_X11_all (11 + 4 * n) 0 0 [vR b, vR l] (sz, im, ct1) Q := by
  obtain ⟨h1, h2, h3, h4, cap, p, h5, h6, h7, h8, h9, h10, h11⟩ := hB
  refine AMet.go (L := [some (vR b), some (vR l), none]) mok_X11_all (Nat.le_of_ble_eq_true rfl) rfl ?_
  refine aw_iconst dX11_all_0 (by decide) ?_
  refine aw_istore2 dX11_all_1 (by decide) rfl ?_
  exact L_x_all H h1 h2 h3 h4 h5 h6 ⟨h7, h8⟩ h9 h10 h11 K (ct0 b 1).toNat 0 60 own1 ct1 q (by omega) (by omega) (by decide) (by omega) (by rw [h9]) hX
