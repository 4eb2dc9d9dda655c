set_option maxRecDepth 100000
/-! P7: the reading of seasons, in plain terms: steps -/
def rowW (R : Int → Int) (m kk a b c e : Int) : Int → Int := fun i => if i = 860 + 6 * m then kk else if i = 861 + 6 * m then a else if i = 862 + 6 * m then b else if i = 863 + 6 * m then c else if i = 864 + 6 * m then 0 else if i = 865 + 6 * m then e else R i
/-- place, rows, how many, depth, opened, counted -/
abbrev ST : Type := Int × (Int → Int) × Int × Int × (Int → Int) × Int
def nxtP (k : Int) (R : Int → Int) (m dep : Int) (op : Int → Int) (cnt q : Int) (o : Int × Int × Int × Int × Int × Int) : ST :=
  if k = 19 then (q, upA (upA (rowW R m 19 0 0 0 0) (864 + 6 * m) (op (dep - 1))) (864 + 6 * op (dep - 1)) m, m + 1, dep - 1, op, cnt)
  else if k = 17 ∨ k = 18 then (q, rowW R m o.2.1 o.2.2.1 o.2.2.2.1 o.2.2.2.2.1 o.2.2.2.2.2, m + 1, dep + 1, upA op dep m, cnt + 1)
  else (q, rowW R m o.2.1 o.2.2.1 o.2.2.2.1 o.2.2.2.2.1 o.2.2.2.2.2, m + 1, dep, op, cnt + 1)
theorem nxtP_1 {k m dep cnt q : Int} {R op : Int → Int} {o : Int × Int × Int × Int × Int × Int} : (nxtP k R m dep op cnt q o).1 = q := by
  unfold nxtP
  split
  · rfl
  · split <;> rfl
noncomputable def stepP (tp : Int → Int) (n : Int) (s N : Int → Int) (t : ST) : PF ⊕ ST :=
  if tW tp n t.1 < 11 ∨ 20 < tW tp n t.1 ∨ (tW tp n t.1 = 19 ∧ t.2.2.2.1 = 0) then .inl (wr tp n t.1, tF tp n t.1)
  else if tW tp n t.1 ≠ 19 ∧ t.2.2.2.2.2 = 30 then .inl (6, tF tp n t.1)
  else if (tW tp n t.1 = 17 ∨ tW tp n t.1 = 18) ∧ t.2.2.2.1 = 3 then .inl (7, tF tp n t.1)
  else bnd (ordP tp n (tE tp n t.1) s N (tW tp n t.1)) fun o => if sgn tp n o.1 59 then .inr (nxtP (tW tp n t.1) t.2.1 t.2.2.1 t.2.2.2.1 t.2.2.2.2.1 t.2.2.2.2.2 (tE tp n o.1) o) else .inl (wr tp n o.1, tF tp n o.1)
theorem stepP_p {tp : Int → Int} {n : Int} {s N : Int → Int} {t t1 : ST} (hp : t.1 ≤ n) (hc : 0 ≤ s 0) (h1 : 0 ≤ s 1) (h : stepP tp n s N t = .inr t1) : t.1 < t1.1 ∧ t1.1 ≤ n := by
  unfold stepP at h
  split at h
  · cases h
  · rename_i hw
    have hk : tK tp n t.1 = 1 := tW_k (by omega)
    have a1 := tE_lt (tp := tp) hp (by omega : tK tp n t.1 ≠ 0)
    have a2 := tE_bd (tp := tp) hp
    have a3 := tF_bd (tp := tp) hp
    split at h
    · cases h
    · split at h
      · cases h
      · obtain ⟨⟨q, kk, a, b, c, e⟩, e1, h⟩ := bnd_i h
        have b1 := ordP_p a2.2 hc h1 e1
        dsimp only at h
        split at h
        · rename_i hs
          have c1 := tE_lt (tp := tp) (p := q) b1.2 (by omega)
          have c2 := tE_bd (tp := tp) (p := q) b1.2
          have c3 := tF_bd (tp := tp) (p := q) b1.2
          have e2 := Sum.inr.inj h
          rw [← e2, nxtP_1]
          omega
        · cases h
noncomputable def seasP (tp : Int → Int) (n : Int) (s N : Int → Int) : Nat → ST → PF ⊕ ST
  | 0, _ => .inl (0, 0)
  | r + 1, t => if tK tp n t.1 = 0 then (if t.2.2.2.1 = 0 then .inr t else .inl (wr tp n t.1, tF tp n t.1)) else bnd (stepP tp n s N t) fun t1 => seasP tp n s N r t1
theorem seasP_fuel {tp : Int → Int} {n : Int} {s N : Int → Int} (hc : 0 ≤ s 0) (h1 : 0 ≤ s 1) : ∀ (r r' : Nat) (t : ST), t.1 ≤ n → n - t.1 < r → n - t.1 < r' → seasP tp n s N r t = seasP tp n s N r' t
  | 0, _, _, hp, h, _ => by omega
  | _ + 1, 0, _, hp, _, h => by omega
  | r + 1, r' + 1, t, hp, h, h' => by
    simp only [seasP]
    by_cases z : tK tp n t.1 = 0
    · rw [if_pos z, if_pos z]
    · rw [if_neg z, if_neg z]
      cases e : stepP tp n s N t with
      | inl f => rw [bnd_l rfl, bnd_l rfl]
      | inr t1 =>
        have hb := stepP_p hp hc h1 e
        rw [bnd_r rfl, bnd_r rfl]
        exact seasP_fuel hc h1 r r' t1 hb.2 (by omega) (by omega)
/-- what is read from a state on -/
noncomputable def SEA (tp : Int → Int) (n : Int) (s N : Int → Int) (t : ST) : PF ⊕ ST := seasP tp n s N ((n - t.1).toNat + 1) t
theorem SEA_end {tp : Int → Int} {n : Int} {s N : Int → Int} {t : ST} (h : tK tp n t.1 = 0) : SEA tp n s N t = if t.2.2.2.1 = 0 then .inr t else .inl (wr tp n t.1, tF tp n t.1) := by
  unfold SEA
  simp only [seasP]
  exact if_pos h
theorem SEA_l {tp : Int → Int} {n : Int} {s N : Int → Int} {t : ST} {f : PF} (h : ¬ tK tp n t.1 = 0) (e : stepP tp n s N t = .inl f) : SEA tp n s N t = .inl f := by
  unfold SEA
  simp only [seasP]
  rw [if_neg h, bnd_l e]
theorem SEA_r {tp : Int → Int} {n : Int} {s N : Int → Int} {t t1 : ST} (hc : 0 ≤ s 0) (h1 : 0 ≤ s 1) (hp : t.1 ≤ n) (h : ¬ tK tp n t.1 = 0) (e : stepP tp n s N t = .inr t1) : SEA tp n s N t = SEA tp n s N t1 := by
  have hb := stepP_p hp hc h1 e
  have e1 : SEA tp n s N t = seasP tp n s N ((n - t.1).toNat) t1 := by
    unfold SEA
    simp only [seasP]
    rw [if_neg h, bnd_r e]
  rw [e1]
  exact seasP_fuel hc h1 _ _ t1 hb.2 (by omega) (by omega)
