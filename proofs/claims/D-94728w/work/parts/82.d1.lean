set_option maxRecDepth 100000
/-! H9: seasons that are being built in the heap of BeeYard -/
def sR (s R : Int → Int) : Int → Int := fun i => if i < 860 then s i else R i
theorem sR_lo {s R : Int → Int} {i : Int} (h : i < 860) : sR s R i = s i := if_pos h
theorem sR_hi {s R : Int → Int} {i : Int} (h : 860 ≤ i) : sR s R i = R i := if_neg (by omega)
/-- another ownership, in a world that has grown -/
theorem STs.mv {own own' : Int → Int} {sz sz' : Int} {im im' : Int → aIm} {ct ct' : Int → Int → Int} {s : Int → Int} (hz : sz ≤ sz') (hi : ∀ x, x < sz → im' x = im x) (ho : ∀ x, x < sz → own x = -1 → own' x = -1 ∧ ct' x = ct x) {n : Nat} {o i j : Int} (h : STs own sz im ct s n o i j) : STs own' sz' im' ct' s n o i j :=
  STs.tg (F := fun t => t ≠ -1) ⟨hz, hi, fun x hx hf => (ho x hx (Classical.not_not.mp hf)).2, fun x hx hf => by
    have h1 : own x = -1 := Classical.not_not.mp hf
    rw [h1]; exact (ho x hx h1).1⟩ (fun z => z rfl) h
theorem p_lo {own : Int → Int} {sz : Int} {im : Int → aIm} {ct : Int → Int → Int} {s : Int → Int} {n : Nat} {a m : Int} {p : Int → Int} (h : ∀ k, 0 ≤ k → k < m → STs own sz im ct s n (ct a k) (p k) (p (k + 1))) {k : Int} (k0 : 0 ≤ k) (k1 : k ≤ m) : p 0 + k ≤ p k ∧ p k + (m - k) ≤ p m := by
  have h1 := p_up (m := k) (p := p) (fun q q0 q1 => h q q0 (by omega)) k.toNat 0 (by omega) (by omega)
  have h2 := p_up (m := m) (p := p) h (m - k).toNat k (by omega) k0
  omega
/-- other rows than its own may change -/
theorem STs.rowR {own : Int → Int} {sz : Int} {im : Int → aIm} {ct : Int → Int → Int} {s s' : Int → Int} (hr0 : ∀ i, i < 860 → s' i = s i) (h4 : s 0 ≤ 4) : ∀ {n : Nat} {o i j : Int}, (∀ q, 860 + 6 * i ≤ q → q < 860 + 6 * j → s' q = s q) → STs own sz im ct s n o i j → STs own sz im ct s' n o i j
  | 0, _, _, _, _, h => h
  | n + 1, o, i, j, hr, h => by
    have hlt := h.nx.1
    obtain ⟨a1, a2, a3, a4⟩ := h
    have h0 := hr0 0 (by decide)
    have h1 := hr0 1 (by decide)
    have hn : ∀ k, 0 ≤ k → k < s 0 → s' (64 + 198 * k) = s (64 + 198 * k) := fun k k0 k1 => hr0 _ (by omega)
    refine ⟨a1, a2, a3, ?_⟩
    rcases a4 with ⟨b1, b2, b3, b4, b5, b6, b7, b8⟩ | ⟨g1, g2, g3, g4, g5, cap, p, g6, g7, g8, g9, g10, g11, g12⟩
    · exact Or.inl ⟨b1, b2, b3.row h0 h1 hn fun q q0 q1 => hr q (by omega) (by omega), by rw [hr _ (by omega) (by omega)]; exact b4, by rw [hr _ (by omega) (by omega)]; exact b5, by rw [hr _ (by omega) (by omega)]; exact b6, by rw [hr _ (by omega) (by omega)]; exact b7, by rw [hr _ (by omega) (by omega)]; exact b8⟩
    · refine Or.inr ⟨?_, g2, by rw [hr _ (by omega) (by omega)]; exact g3, by rw [hr _ (by omega) (by omega)]; exact g4, by rw [hr _ (by omega) (by omega)]; exact g5, cap, p, g6, g7, g8, g9, g10, g11, fun k k0 k1 => ?_⟩
      · rw [hr (860 + 6 * i) (by omega) (by omega), hr (861 + 6 * i) (by omega) (by omega), hr (862 + 6 * i) (by omega) (by omega), hr (865 + 6 * i) (by omega) (by omega), h0]
        exact g1
      · have l1 := p_lo g12 k0 (by omega)
        have l2 := p_lo g12 (k := k + 1) (by omega) (by omega)
        exact STs.rowR hr0 h4 (fun q q0 q1 => hr q (by omega) (by omega)) (g12 k k0 k1)
theorem STs.may {own : Int → Int} {sz : Int} {im : Int → aIm} {ct : Int → Int → Int} {s : Int → Int} {n : Nat} {o i j : Int} (h : STs own sz im ct s n o i j) : mayS sz im 8 o := by
  rcases h.cls with z | z | z
  · exact Or.inl ⟨12, _, z, rfl, Or.inr ⟨_, rfl, q2082⟩⟩
  · exact Or.inl ⟨10, _, z, rfl, Or.inr ⟨_, rfl, q2080⟩⟩
  · exact Or.inl ⟨11, _, z, rfl, Or.inr ⟨_, rfl, q2081⟩⟩
/-- a block that is being built: its steps stand in the rows from i to m -/
def BB (own : Int → Int) (sz : Int) (im : Int → aIm) (ct : Int → Int → Int) (S : Int → Int) (n : Nat) (b i m : Int) : Prop := (aob sz im b 10 ∨ aob sz im b 11) ∧ own b = -4 ∧ own (ct b 0) = -4 ∧ 0 ≤ ct b 1 ∧ (0 ≤ i ∧ m ≤ 60) ∧
  ∃ (cap : Int) (p : Int → Int), aar sz im (ct b 0) 8 cap ∧ 1 ≤ cap ∧ ct b 1 ≤ cap ∧ p 0 = i ∧ p (ct b 1) = m ∧ ∀ k, 0 ≤ k → k < ct b 1 → STs own sz im ct S n (ct (ct b 0) k) (p k) (p (k + 1))
theorem BB.lt {own : Int → Int} {sz : Int} {im : Int → aIm} {ct : Int → Int → Int} {S : Int → Int} {n : Nat} {b i m : Int} (h : BB own sz im ct S n b i m) : (0 ≤ b ∧ b < sz) ∧ (0 ≤ ct b 0 ∧ ct b 0 < sz) ∧ ct b 0 ≠ b ∧ i + ct b 1 ≤ m := by
  obtain ⟨h1, h2, h3, h4, h5, cap, p, h6, h7, h8, h9, h10, h11⟩ := h
  have hb : 0 ≤ b ∧ b < sz := by
    rcases h1 with z | z
    · exact ⟨z.1, z.2.1⟩
    · exact ⟨z.1, z.2.1⟩
  refine ⟨hb, ⟨h6.1, h6.2.1⟩, fun z => ?_, ?_⟩
  · rcases h1 with y | y
    · exact aob_ne y h6 (by decide) z.symm
    · exact aob_ne y h6 (by decide) z.symm
  · have := (p_lo h11 h4 (Int.le_refl _)).1
    omega
theorem BB.mv {own own' : Int → Int} {sz sz' : Int} {im im' : Int → aIm} {ct ct' : Int → Int → Int} {S : Int → Int} {n : Nat} {b i m : Int} (h : BB own sz im ct S n b i m) (hz : sz ≤ sz') (hi : ∀ x, x < sz → im' x = im x) (ho : ∀ x, x < sz → own x = -1 → own' x = -1 ∧ ct' x = ct x) (c1 : ct' b = ct b) (c2 : ct' (ct b 0) = ct (ct b 0)) (o1 : own' b = -4) (o2 : own' (ct b 0) = -4) : BB own' sz' im' ct' S n b i m := by
  have hl := h.lt
  obtain ⟨h1, h2, h3, h4, h5, cap, p, h6, h7, h8, h9, h10, h11⟩ := h
  unfold BB
  rw [c1, c2]
  refine ⟨?_, o1, o2, h4, h5, cap, p, ⟨h6.1, by have := h6.2.1; omega, by rw [hi _ h6.2.1]; exact h6.2.2⟩, h7, h8, h9, h10, fun k k0 k1 => (h11 k k0 k1).mv hz hi ho⟩
  rcases h1 with z | z
  · exact Or.inl ⟨z.1, by have := z.2.1; omega, by rw [hi _ z.2.1]; exact z.2.2⟩
  · exact Or.inr ⟨z.1, by have := z.2.1; omega, by rw [hi _ z.2.1]; exact z.2.2⟩
theorem BB.rows {own : Int → Int} {sz : Int} {im : Int → aIm} {ct : Int → Int → Int} {s R R' : Int → Int} {n : Nat} {b i m : Int} (h : BB own sz im ct (sR s R) n b i m) (h4 : s 0 ≤ 4) (hr : ∀ q, 860 + 6 * i ≤ q → q < 860 + 6 * m → R' q = R q) : BB own sz im ct (sR s R') n b i m := by
  obtain ⟨h1, h2, h3, h4', h5, cap, p, h6, h7, h8, h9, h10, h11⟩ := h
  refine ⟨h1, h2, h3, h4', h5, cap, p, h6, h7, h8, h9, h10, fun k k0 k1 => ?_⟩
  have l1 := p_lo h11 k0 (by omega)
  have l2 := p_lo h11 (k := k + 1) (by omega) (by omega)
  refine STs.rowR (s := sR s R) (fun q hq => ?_) (by rw [sR_lo (by decide)]; exact h4) (fun q q0 q1 => ?_) (h11 k k0 k1)
  · rw [sR_lo hq, sR_lo hq]
  · rw [sR_hi (by omega), sR_hi (by omega)]
    exact hr q (by omega) (by omega)
/-- one step more -/
theorem BB.add {own : Int → Int} {sz sz' : Int} {im im' : Int → aIm} {ct ct' : Int → Int → Int} {S : Int → Int} {n : Nat} {b i m m' o t1 cap1 : Int} {own' : Int → Int} (h : BB own sz im ct S n b i m) (hz : sz ≤ sz') (hi : ∀ x, x < sz → im' x = im x) (ho : ∀ x, x < sz → own x = -1 → own' x = -1 ∧ ct' x = ct x)
    (o1 : own' b = -4) (o2 : own' t1 = -4) (hA : aar sz' im' t1 8 cap1) (hc1 : 1 ≤ cap1) (hc2 : ct b 1 + 1 ≤ cap1) (e0 : ct' b 0 = t1) (e1 : ct' b 1 = ct b 1 + 1) (hk : ∀ j, 0 ≤ j → j < ct b 1 → ct' t1 j = ct (ct b 0) j) (hl : ct' t1 (ct b 1) = o) (ho1 : STs own' sz' im' ct' S n o m m') (hm : m' ≤ 60) : BB own' sz' im' ct' S n b i m' := by
  obtain ⟨h1, h2, h3, h4, h5, cap, p, h6, h7, h8, h9, h10, h11⟩ := h
  unfold BB
  rw [e0, e1]
  refine ⟨?_, o1, o2, by omega, ⟨h5.1, hm⟩, cap1, fun k => if k ≤ ct b 1 then p k else m', hA, hc1, hc2, ?_, ?_, fun k k0 k1 => ?_⟩
  · rcases h1 with z | z
    · exact Or.inl ⟨z.1, by have := z.2.1; omega, by rw [hi _ z.2.1]; exact z.2.2⟩
    · exact Or.inr ⟨z.1, by have := z.2.1; omega, by rw [hi _ z.2.1]; exact z.2.2⟩
  · show (if 0 ≤ ct b 1 then p 0 else m') = i
    rw [if_pos h4]; exact h9
  · show (if ct b 1 + 1 ≤ ct b 1 then p (ct b 1 + 1) else m') = m'
    rw [if_neg (by omega)]
  · show STs own' sz' im' ct' S n (ct' t1 k) (if k ≤ ct b 1 then p k else m') (if k + 1 ≤ ct b 1 then p (k + 1) else m')
    by_cases z : k = ct b 1
    · subst z
      rw [if_pos (Int.le_refl _), if_neg (by omega), hl, h10]
      exact ho1
    · rw [if_pos (by omega), if_pos (by omega), hk k k0 (by omega)]
      exact (h11 k k0 (by omega)).mv hz hi ho
/-- the head of a block, by its row -/
def HDB (sz : Int) (im : Int → aIm) (S : Int → Int) (o i : Int) : Prop := (aob sz im o 10 ∧ S (860 + 6 * i) = 18 ∧ (im o).2.2 2 = S (861 + 6 * i) ∧ 1 ≤ S (861 + 6 * i) ∧ S (861 + 6 * i) ≤ 99) ∨
  (aob sz im o 11 ∧ (im o).2.2 3 = S (861 + 6 * i) ∧ (0 ≤ S (861 + 6 * i) ∧ S (861 + 6 * i) < S 0) ∧ (im o).2.2 4 = S (865 + 6 * i) ∧ (im o).2.2 5 = S (862 + 6 * i) ∧
    ((S (860 + 6 * i) = 1721 ∧ (im o).2.2 2 = 0) ∨ (S (860 + 6 * i) = 1705 ∧ (im o).2.2 2 = 1) ∨ (S (860 + 6 * i) = 1706 ∧ (im o).2.2 2 = 2) ∨ (S (860 + 6 * i) = 1722 ∧ (im o).2.2 2 = 3)))
theorem HDB.mv {sz sz' : Int} {im im' : Int → aIm} {S S' : Int → Int} {o i : Int} (h : HDB sz im S o i) (hz : sz ≤ sz') (hi : ∀ x, x < sz → im' x = im x) (h0 : S' 0 = S 0) (hr : ∀ q, 860 + 6 * i ≤ q → q < 866 + 6 * i → q ≠ 864 + 6 * i → S' q = S q) : HDB sz' im' S' o i := by
  have ho : o < sz := by
    rcases h with ⟨z, -⟩ | ⟨z, -⟩
    · exact z.2.1
    · exact z.2.1
  unfold HDB
  rw [hi o ho, hr _ (by omega) (by omega) (by omega), hr (861 + 6 * i) (by omega) (by omega) (by omega), hr (862 + 6 * i) (by omega) (by omega) (by omega), hr (865 + 6 * i) (by omega) (by omega) (by omega), h0]
  rcases h with ⟨z, h⟩ | ⟨z, h⟩
  · exact Or.inl ⟨⟨z.1, by have := z.2.1; omega, by rw [hi _ ho]; exact z.2.2⟩, h⟩
  · exact Or.inr ⟨⟨z.1, by have := z.2.1; omega, by rw [hi _ ho]; exact z.2.2⟩, h⟩
/-- a block is done: it is a step -/
theorem BB.done {own : Int → Int} {sz : Int} {im : Int → aIm} {ct : Int → Int → Int} {s R : Int → Int} {n : Nat} {o i m : Int} (h : BB own sz im ct (sR s R) n o (i + 1) m) (hd : HDB sz im (sR s R) o i) (h4 : s 0 ≤ 4) (i0 : 0 ≤ i) (hm : m + 1 ≤ 60) :
    STs (fun x => if x = o ∨ x = ct o 0 then -1 else own x) sz im ct (sR s (upA (upA (rowW R m 19 0 0 0 0) (864 + 6 * m) i) (864 + 6 * i) m)) (n + 1) o i (m + 1) := by
  have hl := h.lt
  have hq : ∀ q, q < 860 + 6 * m → q ≠ 864 + 6 * i → upA (upA (rowW R m 19 0 0 0 0) (864 + 6 * m) i) (864 + 6 * i) m q = R q := fun q q0 q1 => by
    rw [upA_n q1, upA_n (by omega), rowW_o (Or.inl q0)]
  have h9 := h.rows (R' := upA (upA (rowW R m 19 0 0 0 0) (864 + 6 * m) i) (864 + 6 * i) m) h4 (fun q q0 q1 => hq q q1 (by omega))
  obtain ⟨h1, h2, h3, h4', h5, cap, p, h6, h7, h8, h9, h10, h11⟩ := h9
  have hmi : i + 1 ≤ m := by omega
  refine ⟨if_pos (Or.inl rfl), i0, hm, Or.inr ⟨?_, by omega, ?_, ?_, ?_, cap, p, h6, if_pos (Or.inr rfl), h4', h8, h9, by rw [h10]; omega, fun k k0 k1 => (h11 k k0 k1).mv (Int.le_refl _) (fun _ _ => rfl) (fun x hx h => ⟨?_, rfl⟩)⟩⟩
  · exact hd.mv (Int.le_refl _) (fun _ _ => rfl) (by rw [sR_lo (by decide), sR_lo (by decide)]) (fun q q0 q1 q2 => by rw [sR_hi (by omega), sR_hi (by omega)]; exact hq q (by omega) q2)
  · rw [show m + 1 - 1 = m by omega, sR_hi (by omega), upA_n (by omega), upA_n (by omega)]
    unfold rowW
    rw [if_pos rfl]
  · rw [show m + 1 - 1 = m by omega, sR_hi (by omega), upA_n (by omega), upA_s]
  · rw [show m + 1 - 1 = m by omega, sR_hi (by omega), upA_s]
  · show (if x = o ∨ x = ct o 0 then -1 else own x) = -1
    split
    · rfl
    · exact h
/-- rows of orders that are no blocks -/
theorem ordP_row {tp : Int → Int} {n p k q kk a b c e : Int} {s N S : Int → Int} {r : Int} (hp : p ≤ n) (hc : 0 ≤ s 0) (h1 : 0 ≤ s 1) (hk : (11 ≤ k ∧ k ≤ 16) ∨ k = 20) (h : ordP tp n p s N k = .inr (q, kk, a, b, c, e)) (hS : ∀ i, i < 860 → S i = s i) (h4 : s 0 ≤ 4) (e0 : S r = kk) (e1 : S (r + 1) = a) (e2 : S (r + 2) = b) (e3 : S (r + 3) = c) (e5 : S (r + 5) = e) : kk = k ∧ ROW S r := by
  have s0 := hS 0 (by decide)
  have s1 := hS 1 (by decide)
  unfold ROW
  rw [e0, e1, e2, e3, e5, s0, s1]
  rcases (by omega : k = 11 ∨ k = 12 ∨ k = 13 ∨ k = 14 ∨ k = 15 ∨ k = 16 ∨ k = 20) with z | z | z | z | z | z | z <;> subst z
  · rw [ordP_11] at h
    obtain ⟨⟨v, q1⟩, y1, h⟩ := bnd_i h
    have b1 := numP_p hp y1
    cases h
    exact ⟨rfl, Or.inl ⟨rfl, b1.2.1, b1.2.2⟩⟩
  · rw [ordP_12] at h
    obtain ⟨⟨v, q1⟩, y1, h⟩ := bnd_i h
    have b1 := hvP_p hp hc y1
    obtain ⟨⟨v2, q2⟩, y2, h⟩ := bnd_i h
    have b2 := numP_p b1.2.2 y2
    cases h
    exact ⟨rfl, Or.inr (Or.inl ⟨rfl, b1.1, b2.2.1, b2.2.2⟩)⟩
  · rw [ordP_13] at h
    obtain ⟨⟨v, q1⟩, y1, h⟩ := bnd_i h
    have b1 := hvP_p hp hc y1
    obtain ⟨⟨v2, q2⟩, y2, h⟩ := bnd_i h
    have b2 := numP_p b1.2.2 y2
    cases h
    have g := hS (64 + 198 * v) (by omega)
    exact ⟨rfl, Or.inr (Or.inr (Or.inl ⟨rfl, b1.1, b2.2.1, by rw [g]; have := b2.2.2; dsimp only at this; omega⟩))⟩
  · rw [ordP_14] at h
    obtain ⟨⟨v, q1⟩, y1, h⟩ := bnd_i h
    have b1 := hvP_p hp hc y1
    obtain ⟨⟨v2, q2⟩, y2, h⟩ := bnd_i h
    have b2 := numP_p b1.2.2 y2
    obtain ⟨⟨v3, q3⟩, y3, h⟩ := bnd_i h
    have b3 := hvP_p b2.1.2 hc y3
    obtain ⟨⟨v4, q4⟩, y4, h⟩ := bnd_i h
    have b4 := numP_p b3.2.2 y4
    cases h
    have g := hS (64 + 198 * v) (by omega)
    have g2 := hS (64 + 198 * v3) (by omega)
    exact ⟨rfl, Or.inr (Or.inr (Or.inr (Or.inl ⟨rfl, ⟨b1.1, b2.2.1, by rw [g]; have := b2.2.2; dsimp only at this; omega⟩, b3.1, b4.2.1, by rw [g2]; have := b4.2.2; dsimp only at this; omega⟩)))⟩
  · rw [ordP_15] at h
    obtain ⟨⟨v, q1⟩, y1, h⟩ := bnd_i h
    have b1 := numP_p hp y1
    cases h
    exact ⟨rfl, Or.inr (Or.inr (Or.inr (Or.inr (Or.inl ⟨rfl, b1.2.1, b1.2.2⟩))))⟩
  · rw [ordP_16] at h
    obtain ⟨⟨v, q1⟩, y1, h⟩ := bnd_i h
    have b1 := oldP_r hp h1 y1
    obtain ⟨⟨v2, q2⟩, y2, h⟩ := bnd_i h
    have b2 := hvP_p b1.2.2.2 hc y2
    cases h
    exact ⟨rfl, Or.inr (Or.inr (Or.inr (Or.inr (Or.inr (Or.inl ⟨rfl, b1.1, b2.1.1, b2.1.2⟩)))))⟩
  · rw [ordP_19 (by omega)] at h
    cases h
    exact ⟨rfl, Or.inr (Or.inr (Or.inr (Or.inr (Or.inr (Or.inr rfl)))))⟩
theorem rowW_at {R : Int → Int} {m kk a b c e : Int} : rowW R m kk a b c e (860 + 6 * m) = kk ∧ rowW R m kk a b c e (861 + 6 * m) = a ∧ rowW R m kk a b c e (862 + 6 * m) = b ∧ rowW R m kk a b c e (863 + 6 * m) = c ∧ rowW R m kk a b c e (865 + 6 * m) = e := by
  unfold rowW
  refine ⟨if_pos rfl, ?_, ?_, ?_, ?_⟩
  · rw [if_neg (by omega), if_pos rfl]
  · rw [if_neg (by omega), if_neg (by omega), if_pos rfl]
  · rw [if_neg (by omega), if_neg (by omega), if_neg (by omega), if_pos rfl]
  · rw [if_neg (by omega), if_neg (by omega), if_neg (by omega), if_neg (by omega), if_neg (by omega), if_pos rfl]
theorem rowW_ge {R : Int → Int} {m kk a b c e i : Int} (h : i < 860 + 6 * m) : rowW R m kk a b c e i = R i := rowW_o (Or.inl h)
