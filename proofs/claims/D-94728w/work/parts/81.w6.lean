set_option maxRecDepth 100000
/-! P6: the reading of seasons, in plain terms: orders -/
abbrev OR : Type := PF ⊕ (Int × Int × Int × Int × Int × Int)
noncomputable def hvP (tp : Int → Int) (n p : Int) (s N : Int → Int) : PF ⊕ (Int × Int) := oldP tp n p N 0 (s 0)
noncomputable def frP (tp : Int → Int) (n p : Int) (s : Int → Int) (h : Int) : PF ⊕ (Int × Int) := numP tp n p 0 (s (64 + 198 * h) - 1)
noncomputable def tstP (tp : Int → Int) (n p : Int) (s N : Int → Int) : OR := if tW tp n p = 21 ∨ tW tp n p = 5 ∨ tW tp n p = 6 ∨ tW tp n p = 22 then bnd (hvP tp n (tE tp n p) s N) fun h => if tW tp n p = 21 then .inr (h.2, 1721, h.1, 0, 0, 0) else
  if sgn tp n h.2 60 ∨ sgn tp n h.2 62 ∨ sgn tp n h.2 61 then bnd (numP tp n (tE tp n h.2) 0 9999) fun v => .inr (v.2, 1700 + tW tp n p, h.1, v.1, 0, tp (tF tp n h.2)) else .inl (wr tp n h.2, tF tp n h.2) else .inl (wr tp n p, tF tp n p)
noncomputable def ordP (tp : Int → Int) (n p : Int) (s N : Int → Int) (k : Int) : OR :=
  if k = 11 then bnd (numP tp n p 1 30) fun v => .inr (v.2, 11, v.1, 0, 0, 0)
  else if k = 12 then bnd (hvP tp n p s N) fun h => bnd (numP tp n h.2 0 999) fun v => .inr (v.2, 12, h.1, v.1, 0, 0)
  else if k = 13 then bnd (hvP tp n p s N) fun h => bnd (frP tp n h.2 s h.1) fun v => .inr (v.2, 13, h.1, v.1, 0, 0)
  else if k = 14 then bnd (hvP tp n p s N) fun h => bnd (frP tp n h.2 s h.1) fun v => bnd (hvP tp n v.2 s N) fun o => bnd (frP tp n o.2 s o.1) fun w => .inr (w.2, 14, h.1, v.1, o.1, w.1)
  else if k = 15 then bnd (numP tp n p 1 16) fun v => .inr (v.2, 15, v.1, 0, 0, 0)
  else if k = 16 then bnd (oldP tp n p N 12 (s 1)) fun q => bnd (hvP tp n q.2 s N) fun h => .inr (h.2, 16, q.1, h.1, 0, 0)
  else if k = 17 then tstP tp n p s N
  else if k = 18 then bnd (numP tp n p 1 99) fun v => .inr (v.2, 18, v.1, 0, 0, 0)
  else .inr (p, k, 0, 0, 0, 0)
theorem ordP_11 {tp : Int → Int} {n p : Int} {s N : Int → Int} : ordP tp n p s N 11 = bnd (numP tp n p 1 30) fun v => .inr (v.2, 11, v.1, 0, 0, 0) := by
  unfold ordP; rw [if_pos rfl]
theorem ordP_12 {tp : Int → Int} {n p : Int} {s N : Int → Int} : ordP tp n p s N 12 = bnd (hvP tp n p s N) fun h => bnd (numP tp n h.2 0 999) fun v => .inr (v.2, 12, h.1, v.1, 0, 0) := by
  unfold ordP; rw [if_neg (by decide), if_pos rfl]
theorem ordP_13 {tp : Int → Int} {n p : Int} {s N : Int → Int} : ordP tp n p s N 13 = bnd (hvP tp n p s N) fun h => bnd (frP tp n h.2 s h.1) fun v => .inr (v.2, 13, h.1, v.1, 0, 0) := by
  unfold ordP; rw [if_neg (by decide), if_neg (by decide), if_pos rfl]
theorem ordP_14 {tp : Int → Int} {n p : Int} {s N : Int → Int} : ordP tp n p s N 14 = bnd (hvP tp n p s N) fun h => bnd (frP tp n h.2 s h.1) fun v => bnd (hvP tp n v.2 s N) fun o => bnd (frP tp n o.2 s o.1) fun w => .inr (w.2, 14, h.1, v.1, o.1, w.1) := by
  unfold ordP; rw [if_neg (by decide), if_neg (by decide), if_neg (by decide), if_pos rfl]
theorem ordP_15 {tp : Int → Int} {n p : Int} {s N : Int → Int} : ordP tp n p s N 15 = bnd (numP tp n p 1 16) fun v => .inr (v.2, 15, v.1, 0, 0, 0) := by
  unfold ordP; rw [if_neg (by decide), if_neg (by decide), if_neg (by decide), if_neg (by decide), if_pos rfl]
theorem ordP_16 {tp : Int → Int} {n p : Int} {s N : Int → Int} : ordP tp n p s N 16 = bnd (oldP tp n p N 12 (s 1)) fun q => bnd (hvP tp n q.2 s N) fun h => .inr (h.2, 16, q.1, h.1, 0, 0) := by
  unfold ordP; rw [if_neg (by decide), if_neg (by decide), if_neg (by decide), if_neg (by decide), if_neg (by decide), if_pos rfl]
theorem ordP_17 {tp : Int → Int} {n p : Int} {s N : Int → Int} : ordP tp n p s N 17 = tstP tp n p s N := by
  unfold ordP; rw [if_neg (by decide), if_neg (by decide), if_neg (by decide), if_neg (by decide), if_neg (by decide), if_neg (by decide), if_pos rfl]
theorem ordP_18 {tp : Int → Int} {n p : Int} {s N : Int → Int} : ordP tp n p s N 18 = bnd (numP tp n p 1 99) fun v => .inr (v.2, 18, v.1, 0, 0, 0) := by
  unfold ordP; rw [if_neg (by decide), if_neg (by decide), if_neg (by decide), if_neg (by decide), if_neg (by decide), if_neg (by decide), if_neg (by decide), if_pos rfl]
theorem ordP_19 {tp : Int → Int} {n p k : Int} {s N : Int → Int} (h : k < 11 ∨ 18 < k) : ordP tp n p s N k = .inr (p, k, 0, 0, 0, 0) := by
  unfold ordP; rw [if_neg (by omega), if_neg (by omega), if_neg (by omega), if_neg (by omega), if_neg (by omega), if_neg (by omega), if_neg (by omega), if_neg (by omega)]
/-! positions go on, values stay in their bounds -/
theorem hvP_p {tp : Int → Int} {n p h q : Int} {s N : Int → Int} (hp : p ≤ n) (hc : 0 ≤ s 0) (e : hvP tp n p s N = .inr (h, q)) : (0 ≤ h ∧ h < s 0) ∧ p < q ∧ q ≤ n := by
  have := oldP_r hp hc e
  exact ⟨this.1, this.2.2⟩
theorem bnd_i {α β : Type} {r : PF ⊕ α} {f : α → PF ⊕ β} {b : β} (h : bnd r f = .inr b) : ∃ a, r = .inr a ∧ f a = .inr b := by
  cases r with
  | inl e => cases h
  | inr a => exact ⟨a, rfl, h⟩
theorem tstP_p {tp : Int → Int} {n p q kk a b c e : Int} {s N : Int → Int} (hp : p ≤ n) (hc : 0 ≤ s 0) (h : tstP tp n p s N = .inr (q, kk, a, b, c, e)) : (p ≤ q ∧ q ≤ n) ∧ (0 ≤ a ∧ a < s 0) ∧ (kk = 1721 ∨ kk = 1705 ∨ kk = 1706 ∨ kk = 1722) := by
  have p1 := tE_bd (tp := tp) hp
  have p2 := tF_bd (tp := tp) hp
  unfold tstP at h
  by_cases w : tW tp n p = 21 ∨ tW tp n p = 5 ∨ tW tp n p = 6 ∨ tW tp n p = 22
  · rw [if_pos w] at h
    obtain ⟨⟨h1, q1⟩, e1, h⟩ := bnd_i h
    have b1 := hvP_p p1.2 hc e1
    dsimp only at h
    by_cases w2 : tW tp n p = 21
    · rw [if_pos w2] at h
      cases h
      exact ⟨by omega, b1.1, Or.inl rfl⟩
    · rw [if_neg w2] at h
      by_cases w3 : sgn tp n q1 60 ∨ sgn tp n q1 62 ∨ sgn tp n q1 61
      · rw [if_pos w3] at h
        obtain ⟨⟨v, q2⟩, e2, h⟩ := bnd_i h
        have p3 := tE_bd (tp := tp) (p := q1) b1.2.2
        have p4 := tF_bd (tp := tp) (p := q1) b1.2.2
        have b2 := numP_p p3.2 e2
        cases h
        exact ⟨by omega, b1.1, by omega⟩
      · rw [if_neg w3] at h; cases h
  · rw [if_neg w] at h; cases h
theorem ordP_p {tp : Int → Int} {n p k q kk a b c e : Int} {s N : Int → Int} (hp : p ≤ n) (hc : 0 ≤ s 0) (h1 : 0 ≤ s 1) (h : ordP tp n p s N k = .inr (q, kk, a, b, c, e)) : p ≤ q ∧ q ≤ n := by
  by_cases z : k < 11 ∨ 18 < k
  · rw [ordP_19 z] at h; cases h; omega
  rcases (by omega : k = 11 ∨ k = 12 ∨ k = 13 ∨ k = 14 ∨ k = 15 ∨ k = 16 ∨ k = 17 ∨ k = 18) with z | z | z | z | z | z | z | z <;> subst z
  · rw [ordP_11] at h
    obtain ⟨⟨v, q1⟩, e1, h⟩ := bnd_i h
    have b1 := numP_p hp e1
    cases h; omega
  · rw [ordP_12] at h
    obtain ⟨⟨v, q1⟩, e1, h⟩ := bnd_i h
    have b1 := hvP_p hp hc e1
    obtain ⟨⟨v2, q2⟩, e2, h⟩ := bnd_i h
    have b2 := numP_p b1.2.2 e2
    cases h; omega
  · rw [ordP_13] at h
    obtain ⟨⟨v, q1⟩, e1, h⟩ := bnd_i h
    have b1 := hvP_p hp hc e1
    obtain ⟨⟨v2, q2⟩, e2, h⟩ := bnd_i h
    have b2 := numP_p b1.2.2 e2
    cases h; omega
  · rw [ordP_14] at h
    obtain ⟨⟨v, q1⟩, e1, h⟩ := bnd_i h
    have b1 := hvP_p hp hc e1
    obtain ⟨⟨v2, q2⟩, e2, h⟩ := bnd_i h
    have b2 := numP_p b1.2.2 e2
    obtain ⟨⟨v3, q3⟩, e3, h⟩ := bnd_i h
    have b3 := hvP_p b2.1.2 hc e3
    obtain ⟨⟨v4, q4⟩, e4, h⟩ := bnd_i h
    have b4 := numP_p b3.2.2 e4
    cases h; omega
  · rw [ordP_15] at h
    obtain ⟨⟨v, q1⟩, e1, h⟩ := bnd_i h
    have b1 := numP_p hp e1
    cases h; omega
  · rw [ordP_16] at h
    obtain ⟨⟨v, q1⟩, e1, h⟩ := bnd_i h
    have b1 := oldP_r hp h1 e1
    obtain ⟨⟨v2, q2⟩, e2, h⟩ := bnd_i h
    have b2 := hvP_p b1.2.2.2 hc e2
    cases h; omega
  · rw [ordP_17] at h
    exact (tstP_p hp hc h).1
  · rw [ordP_18] at h
    obtain ⟨⟨v, q1⟩, e1, h⟩ := bnd_i h
    have b1 := numP_p hp e1
    cases h; omega
