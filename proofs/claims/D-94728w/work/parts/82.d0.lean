set_option maxRecDepth 100000
/-! P8: the reading of seasons as BeeYard reads them: a step whole, with what is in it -/
theorem nxtP_pl {k m dep cnt q : Int} {R op : Int → Int} {o : Int × Int × Int × Int × Int × Int} (h1 : k ≠ 19) (h2 : ¬ (k = 17 ∨ k = 18)) : nxtP k R m dep op cnt q o = (q, rowW R m o.2.1 o.2.2.1 o.2.2.2.1 o.2.2.2.2.1 o.2.2.2.2.2, m + 1, dep, op, cnt + 1) := by
  unfold nxtP
  rw [if_neg h1, if_neg h2]
theorem nxtP_op {k m dep cnt q : Int} {R op : Int → Int} {o : Int × Int × Int × Int × Int × Int} (h2 : k = 17 ∨ k = 18) : nxtP k R m dep op cnt q o = (q, rowW R m o.2.1 o.2.2.1 o.2.2.2.1 o.2.2.2.2.1 o.2.2.2.2.2, m + 1, dep + 1, upA op dep m, cnt + 1) := by
  unfold nxtP
  rw [if_neg (by omega), if_pos h2]
theorem nxtP_cl {m dep cnt q : Int} {R op : Int → Int} {o : Int × Int × Int × Int × Int × Int} : nxtP 19 R m dep op cnt q o = (q, upA (upA (rowW R m 19 0 0 0 0) (864 + 6 * m) (op (dep - 1))) (864 + 6 * op (dep - 1)) m, m + 1, dep - 1, op, cnt) := by
  unfold nxtP
  rw [if_pos rfl]
theorem rowW_o {R : Int → Int} {m kk a b c e i : Int} (h : i < 860 + 6 * m ∨ 866 + 6 * m ≤ i) : rowW R m kk a b c e i = R i := by
  unfold rowW
  rw [if_neg (by omega), if_neg (by omega), if_neg (by omega), if_neg (by omega), if_neg (by omega), if_neg (by omega)]
/-- the head of a step; g: what is in the block -/
noncomputable def hdX (tp : Int → Int) (n : Int) (s N : Int → Int) (D : Nat) (g : ST → PF ⊕ ST) (t : ST) : PF ⊕ ST :=
  if tW tp n t.1 < 11 ∨ (18 < tW tp n t.1 ∧ tW tp n t.1 ≠ 20) then .inl (wr tp n t.1, tF tp n t.1)
  else if t.2.2.2.2.2 = 30 then .inl (6, tF tp n t.1)
  else if (tW tp n t.1 = 17 ∨ tW tp n t.1 = 18) ∧ D = 0 then .inl (7, tF tp n t.1)
  else bnd (ordP tp n (tE tp n t.1) s N (tW tp n t.1)) fun o => if sgn tp n o.1 59 then (if tW tp n t.1 = 17 ∨ tW tp n t.1 = 18 then g (nxtP (tW tp n t.1) t.2.1 t.2.2.1 t.2.2.2.1 t.2.2.2.2.1 t.2.2.2.2.2 (tE tp n o.1) o) else .inr (nxtP (tW tp n t.1) t.2.1 t.2.2.1 t.2.2.2.1 t.2.2.2.2.1 t.2.2.2.2.2 (tE tp n o.1) o)) else .inl (wr tp n o.1, tF tp n o.1)
/-- steps up to the word end -/
noncomputable def bkX (tp : Int → Int) (n : Int) (f : ST → PF ⊕ ST) : Nat → ST → PF ⊕ ST
  | 0, _ => .inl (0, 0)
  | r + 1, t => if tW tp n t.1 = 19 then .inr t else bnd (f t) fun t1 => bkX tp n f r t1
/-- the word end -/
noncomputable def enX (tp : Int → Int) (n : Int) (t : ST) : PF ⊕ ST := if sgn tp n (tE tp n t.1) 59 then .inr (nxtP 19 t.2.1 t.2.2.1 t.2.2.2.1 t.2.2.2.2.1 t.2.2.2.2.2 (tE tp n (tE tp n t.1)) (0, 0, 0, 0, 0, 0)) else .inl (wr tp n (tE tp n t.1), tF tp n (tE tp n t.1))
noncomputable def stX (tp : Int → Int) (n : Int) (s N : Int → Int) : Nat → ST → PF ⊕ ST
  | 0 => hdX tp n s N 0 (fun _ => .inl (0, 0))
  | D + 1 => hdX tp n s N (D + 1) (fun u => bnd (bkX tp n (stX tp n s N D) ((n - u.1).toNat + 1) u) (enX tp n))
def NXs (n : Int) (t t' : ST) : Prop := (t.1 ≤ t'.1 ∧ t'.1 ≤ n) ∧ t'.2.2.2.1 = t.2.2.2.1 ∧ t.2.2.1 ≤ t'.2.2.1 ∧ t.2.2.2.2.2 ≤ t'.2.2.2.2.2 ∧ (∀ j, j < t.2.2.2.1 → t'.2.2.2.2.1 j = t.2.2.2.2.1 j) ∧ ∀ i, i < 860 + 6 * t.2.2.1 → t'.2.1 i = t.2.1 i
def TIs (t : ST) : Prop := 0 ≤ t.2.2.1 ∧ (0 ≤ t.2.2.2.1 ∧ t.2.2.2.1 ≤ 3) ∧ (0 ≤ t.2.2.2.2.2 ∧ t.2.2.2.2.2 ≤ 30) ∧ t.2.2.1 + t.2.2.2.1 ≤ 2 * t.2.2.2.2.2
theorem NXs.trans {n : Int} {t u v : ST} (h : NXs n t u) (k : NXs n u v) : NXs n t v := by
  obtain ⟨a1, a2, a3, a4, a5, a6⟩ := h
  obtain ⟨b1, b2, b3, b4, b5, b6⟩ := k
  exact ⟨⟨by omega, b1.2⟩, by omega, by omega, by omega, fun j hj => (b5 j (by omega)).trans (a5 j hj), fun i hi => (b6 i (by omega)).trans (a6 i hi)⟩
/-- what a reading f of a step must do -/
def GDs (tp : Int → Int) (n : Int) (s N : Int → Int) (D : Nat) (f : ST → PF ⊕ ST) : Prop := ∀ t : ST, t.1 ≤ n → t.2.2.2.1 + D = 3 → TIs t → (tK tp n t.1 ≠ 0 ∨ t.2.2.2.1 ≠ 0) → (tW tp n t.1 ≠ 19 ∨ t.2.2.2.1 = 0) →
  (∀ e, f t = .inl e → SEA tp n s N t = .inl e) ∧ ∀ u, f t = .inr u → SEA tp n s N t = SEA tp n s N u ∧ NXs n t u ∧ TIs u ∧ t.1 < u.1 ∧ t.2.2.1 < u.2.2.1 ∧ t.2.2.2.2.2 < u.2.2.2.2.2
theorem bkX_sea {tp : Int → Int} {n : Int} {s N : Int → Int} {D : Nat} {f : ST → PF ⊕ ST} (hf : GDs tp n s N D f) : ∀ (r : Nat) (t : ST), t.1 ≤ n → n - t.1 < r → t.2.2.2.1 + D = 3 → 1 ≤ t.2.2.2.1 → TIs t →
    (∀ e, bkX tp n f r t = .inl e → SEA tp n s N t = .inl e) ∧ ∀ u, bkX tp n f r t = .inr u → SEA tp n s N t = SEA tp n s N u ∧ NXs n t u ∧ TIs u ∧ tW tp n u.1 = 19
  | 0, t, hp, hr, _, _, _ => by omega
  | r + 1, t, hp, hr, hD, h1, hT => by
    by_cases z : tW tp n t.1 = 19
    · have e : bkX tp n f (r + 1) t = .inr t := if_pos z
      rw [e]
      refine ⟨fun e h => (by cases h), fun u h => ?_⟩
      cases h
      exact ⟨rfl, ⟨⟨Int.le_refl _, hp⟩, rfl, Int.le_refl _, Int.le_refl _, fun _ _ => rfl, fun _ _ => rfl⟩, hT, z⟩
    · have e : bkX tp n f (r + 1) t = bnd (f t) fun t1 => bkX tp n f r t1 := if_neg z
      rw [e]
      obtain ⟨g1, g2⟩ := hf t hp hD hT (Or.inr (by omega)) (Or.inl z)
      cases ef : f t with
      | inl e9 =>
        rw [bnd_l rfl]
        exact ⟨fun e h => (by cases h; exact g1 _ ef), fun u h => (by cases h)⟩
      | inr t1 =>
        rw [bnd_r rfl]
        obtain ⟨k1, k2, k3, k4, k5, k6⟩ := g2 t1 ef
        have hd1 := k2.2.1
        obtain ⟨m1, m2⟩ := bkX_sea hf r t1 k2.1.2 (by omega) (by omega) (by omega) k3
        rw [k1]
        exact ⟨m1, fun u h => by
          obtain ⟨q1, q2, q3, q4⟩ := m2 u h
          exact ⟨q1, k2.trans q2, q3, q4⟩⟩
theorem stX_sea {tp : Int → Int} {n : Int} {s N : Int → Int} (hc : 0 ≤ s 0) (h1 : 0 ≤ s 1) {D : Nat} {g : ST → PF ⊕ ST} (hg : ∀ u : ST, u.1 ≤ n → u.2.2.2.1 + D = 4 → 1 ≤ u.2.2.2.1 → TIs u → 1 ≤ D → (∀ e, g u = .inl e → SEA tp n s N u = .inl e) ∧ ∀ v, g u = .inr v → SEA tp n s N u = SEA tp n s N v ∧ TIs v ∧ (u.1 ≤ v.1 ∧ v.1 ≤ n) ∧ v.2.2.2.1 = u.2.2.2.1 - 1 ∧ u.2.2.1 ≤ v.2.2.1 ∧ u.2.2.2.2.2 ≤ v.2.2.2.2.2 ∧ (∀ j, j < u.2.2.2.1 - 1 → v.2.2.2.2.1 j = u.2.2.2.2.1 j) ∧ ∀ i, i < 860 + 6 * u.2.2.2.2.1 (u.2.2.2.1 - 1) → u.2.2.2.2.1 (u.2.2.2.1 - 1) ≤ u.2.2.1 → v.2.1 i = u.2.1 i) : GDs tp n s N D (hdX tp n s N D g) := by
  intro t hp hD hT hK hW
  have hT0 := hT.1
  have hT1 := hT.2.1
  have hT2 := hT.2.2.1
  have hT3 := hT.2.2.2
  by_cases k0 : tK tp n t.1 = 0
  · have w0 : tW tp n t.1 = -1 := tW_n (by omega)
    have e : hdX tp n s N D g t = .inl (wr tp n t.1, tF tp n t.1) := if_pos (Or.inl (by omega))
    rw [e, SEA_end k0, if_neg (by omega)]
    exact ⟨fun e h => h, fun u h => by cases h⟩
  by_cases c1 : tW tp n t.1 < 11 ∨ (18 < tW tp n t.1 ∧ tW tp n t.1 ≠ 20)
  · have e : hdX tp n s N D g t = .inl (wr tp n t.1, tF tp n t.1) := if_pos c1
    have e2 : stepP tp n s N t = .inl (wr tp n t.1, tF tp n t.1) := if_pos (by omega)
    rw [e, SEA_l k0 e2]
    exact ⟨fun e h => h, fun u h => by cases h⟩
  have c1' : ¬ (tW tp n t.1 < 11 ∨ 20 < tW tp n t.1 ∨ (tW tp n t.1 = 19 ∧ t.2.2.2.1 = 0)) := by omega
  by_cases c2 : t.2.2.2.2.2 = 30
  · have e : hdX tp n s N D g t = .inl (6, tF tp n t.1) := (if_neg c1).trans (if_pos c2)
    have e2 : stepP tp n s N t = .inl (6, tF tp n t.1) := (if_neg c1').trans (if_pos ⟨by omega, c2⟩)
    rw [e, SEA_l k0 e2]
    exact ⟨fun e h => h, fun u h => by cases h⟩
  by_cases c3 : (tW tp n t.1 = 17 ∨ tW tp n t.1 = 18) ∧ D = 0
  · have e : hdX tp n s N D g t = .inl (7, tF tp n t.1) := (if_neg c1).trans ((if_neg c2).trans (if_pos c3))
    have e2 : stepP tp n s N t = .inl (7, tF tp n t.1) := (if_neg c1').trans ((if_neg (fun z => c2 z.2)).trans (if_pos ⟨c3.1, by have := c3.2; omega⟩))
    rw [e, SEA_l k0 e2]
    exact ⟨fun e h => h, fun u h => by cases h⟩
  have e : hdX tp n s N D g t = bnd (ordP tp n (tE tp n t.1) s N (tW tp n t.1)) fun o => if sgn tp n o.1 59 then (if tW tp n t.1 = 17 ∨ tW tp n t.1 = 18 then g (nxtP (tW tp n t.1) t.2.1 t.2.2.1 t.2.2.2.1 t.2.2.2.2.1 t.2.2.2.2.2 (tE tp n o.1) o) else .inr (nxtP (tW tp n t.1) t.2.1 t.2.2.1 t.2.2.2.1 t.2.2.2.2.1 t.2.2.2.2.2 (tE tp n o.1) o)) else .inl (wr tp n o.1, tF tp n o.1) := (if_neg c1).trans ((if_neg c2).trans (if_neg c3))
  have e2 : stepP tp n s N t = bnd (ordP tp n (tE tp n t.1) s N (tW tp n t.1)) fun o => if sgn tp n o.1 59 then .inr (nxtP (tW tp n t.1) t.2.1 t.2.2.1 t.2.2.2.1 t.2.2.2.2.1 t.2.2.2.2.2 (tE tp n o.1) o) else .inl (wr tp n o.1, tF tp n o.1) := (if_neg c1').trans ((if_neg (fun z => c2 z.2)).trans (if_neg (fun z => c3 ⟨z.1, by omega⟩)))
  rw [e]
  cases eo : ordP tp n (tE tp n t.1) s N (tW tp n t.1) with
  | inl e9 =>
    rw [eo, bnd_l rfl] at e2
    rw [bnd_l rfl, SEA_l k0 e2]
    exact ⟨fun e h => h, fun u h => by cases h⟩
  | inr o =>
    rw [eo, bnd_r rfl] at e2
    rw [bnd_r rfl]
    by_cases hs : sgn tp n o.1 59
    · rw [if_pos hs] at e2
      rw [if_pos hs]
      have hb := stepP_p hp hc h1 e2
      rw [SEA_r hc h1 hp k0 e2]
      by_cases hw : tW tp n t.1 = 17 ∨ tW tp n t.1 = 18
      · rw [if_pos hw]
        rw [nxtP_op hw] at hb ⊢
        dsimp only at hb
        obtain ⟨g1, g2⟩ := hg (tE tp n o.1, rowW t.2.1 t.2.2.1 o.2.1 o.2.2.1 o.2.2.2.1 o.2.2.2.2.1 o.2.2.2.2.2, t.2.2.1 + 1, t.2.2.2.1 + 1, upA t.2.2.2.2.1 t.2.2.2.1 t.2.2.1, t.2.2.2.2.2 + 1) hb.2 (by show t.2.2.2.1 + 1 + D = 4; omega) (by show 1 ≤ t.2.2.2.1 + 1; omega)
          ⟨by show 0 ≤ t.2.2.1 + 1; omega, ⟨by show 0 ≤ t.2.2.2.1 + 1; omega, by show t.2.2.2.1 + 1 ≤ 3; omega⟩, ⟨by show 0 ≤ t.2.2.2.2.2 + 1; omega, by show t.2.2.2.2.2 + 1 ≤ 30; omega⟩, by show t.2.2.1 + 1 + (t.2.2.2.1 + 1) ≤ 2 * (t.2.2.2.2.2 + 1); omega⟩ (by omega)
        refine ⟨g1, fun u hu => ?_⟩
        obtain ⟨q1, q2, q3, q4, q5, q6, q7, q8⟩ := g2 u hu
        dsimp only at q3 q4 q5 q6 q7 q8
        rw [show t.2.2.2.1 + 1 - 1 = t.2.2.2.1 by omega] at q4 q7 q8
        rw [upA_s] at q8
        refine ⟨q1, ⟨⟨by omega, q3.2⟩, q4, by omega, by omega, fun j hj => (q7 j hj).trans (upA_n (by omega)), fun i hi => (q8 i hi (by omega)).trans (rowW_o (Or.inl hi))⟩, q2, by omega, by omega, by omega⟩
      · rw [if_neg hw]
        rw [nxtP_pl (by omega) hw] at hb ⊢
        dsimp only at hb
        refine ⟨fun e h => (by cases h), fun u h => ?_⟩
        cases h
        refine ⟨rfl, ⟨⟨by show t.1 ≤ tE tp n o.1; omega, hb.2⟩, rfl, by show t.2.2.1 ≤ t.2.2.1 + 1; omega, by show t.2.2.2.2.2 ≤ t.2.2.2.2.2 + 1; omega, fun _ _ => rfl, fun i hi => rowW_o (Or.inl hi)⟩, ⟨by show 0 ≤ t.2.2.1 + 1; omega, hT1, ⟨by show 0 ≤ t.2.2.2.2.2 + 1; omega, by show t.2.2.2.2.2 + 1 ≤ 30; omega⟩, by show t.2.2.1 + 1 + t.2.2.2.1 ≤ 2 * (t.2.2.2.2.2 + 1); omega⟩, hb.1, by show t.2.2.1 < t.2.2.1 + 1; omega, by show t.2.2.2.2.2 < t.2.2.2.2.2 + 1; omega⟩
    · rw [if_neg hs] at e2
      rw [if_neg hs, SEA_l k0 e2]
      exact ⟨fun e h => h, fun u h => by cases h⟩
theorem enX_sea {tp : Int → Int} {n : Int} {s N : Int → Int} (hc : 0 ≤ s 0) (h1 : 0 ≤ s 1) {t : ST} (hp : t.1 ≤ n) (hd : 1 ≤ t.2.2.2.1) (hw : tW tp n t.1 = 19) :
    (∀ e, enX tp n t = .inl e → SEA tp n s N t = .inl e) ∧ ∀ u, enX tp n t = .inr u → SEA tp n s N t = SEA tp n s N u ∧ t.1 < u.1 ∧ u.1 ≤ n := by
  have hk : tK tp n t.1 = 1 := tW_k (by omega)
  have k0 : ¬ tK tp n t.1 = 0 := by omega
  have e2 : stepP tp n s N t = bnd (ordP tp n (tE tp n t.1) s N (tW tp n t.1)) fun o => if sgn tp n o.1 59 then .inr (nxtP (tW tp n t.1) t.2.1 t.2.2.1 t.2.2.2.1 t.2.2.2.2.1 t.2.2.2.2.2 (tE tp n o.1) o) else .inl (wr tp n o.1, tF tp n o.1) := (if_neg (by omega)).trans ((if_neg (fun z => z.1 hw)).trans (if_neg (by omega)))
  rw [hw, ordP_19 (by omega), bnd_r rfl] at e2
  unfold enX
  by_cases hs : sgn tp n (tE tp n t.1) 59
  · rw [if_pos hs]
    rw [if_pos hs, nxtP_cl] at e2
    have hb := stepP_p hp hc h1 e2
    refine ⟨fun e h => (by cases h), fun u h => ?_⟩
    rw [nxtP_cl] at h
    cases h
    exact ⟨SEA_r hc h1 hp k0 e2, hb.1, hb.2⟩
  · rw [if_neg hs]
    rw [if_neg hs] at e2
    exact ⟨fun e h => (by cases h; exact SEA_l k0 e2), fun u h => (by cases h)⟩
/-- the plain law of the two ways to read -/
theorem stX_gd {tp : Int → Int} {n : Int} {s N : Int → Int} (hc : 0 ≤ s 0) (h1 : 0 ≤ s 1) : ∀ D : Nat, GDs tp n s N D (stX tp n s N D)
  | 0 => stX_sea hc h1 fun u _ _ _ _ h => by omega
  | D + 1 => stX_sea hc h1 fun u hp hD hd hT _ => by
    obtain ⟨b1, b2⟩ := bkX_sea (stX_gd hc h1 D) ((n - u.1).toNat + 1) u hp (by omega) (by omega) hd hT
    cases eb : bkX tp n (stX tp n s N D) ((n - u.1).toNat + 1) u with
    | inl e9 =>
      rw [bnd_l rfl]
      exact ⟨fun e h => (by cases h; exact b1 _ eb), fun v h => (by cases h)⟩
    | inr t =>
      rw [bnd_r rfl]
      obtain ⟨q1, q2, q3, q4⟩ := b2 t eb
      have d1 := q2.2.1
      obtain ⟨c1, c2⟩ := enX_sea (s := s) (N := N) hc h1 q2.1.2 (by omega) q4
      rw [q1]
      refine ⟨c1, fun v h => ?_⟩
      obtain ⟨z1, z2, z3⟩ := c2 v h
      refine ⟨z1, ?_⟩
      unfold enX at h
      split at h
      · rw [nxtP_cl] at h
        cases h
        dsimp only at z2 z3
        have g1 := q2.2.2.1
        have g2 := q2.2.2.2.1
        have g3 := q2.1
        have t0 := q3.1
        have t1 := q3.2.1
        have t2 := q3.2.2.1
        have t3 := q3.2.2.2
        have ho : u.2.2.2.2.1 (u.2.2.2.1 - 1) = t.2.2.2.2.1 (t.2.2.2.1 - 1) := by rw [d1]; exact (q2.2.2.2.2.1 _ (by omega)).symm
        refine ⟨⟨by show 0 ≤ t.2.2.1 + 1; omega, ⟨by show 0 ≤ t.2.2.2.1 - 1; omega, by show t.2.2.2.1 - 1 ≤ 3; omega⟩, t2, by show t.2.2.1 + 1 + (t.2.2.2.1 - 1) ≤ 2 * t.2.2.2.2.2; omega⟩, ⟨by show u.1 ≤ _; omega, z3⟩, by show t.2.2.2.1 - 1 = u.2.2.2.1 - 1; omega, by show u.2.2.1 ≤ t.2.2.1 + 1; omega, g2, fun j hj => q2.2.2.2.2.1 j (by omega), fun i hi hm => ?_⟩
        dsimp only
        rw [ho] at hi hm
        rw [upA_n (by omega), upA_n (by omega), rowW_o (Or.inl (by omega))]
        exact q2.2.2.2.2.2 i (by omega)
      · cases h
