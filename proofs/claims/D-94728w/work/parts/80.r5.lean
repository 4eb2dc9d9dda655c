set_option maxRecDepth 100000
/-! P5: where a part of a yard ends -/
theorem hiveP_p {tp : Int → Int} {n p q : Int} {s N s1 N1 : Int → Int} (hp : p ≤ n) (h : hiveP tp n p s N = .inr (q, s1, N1)) : (p ≤ q ∧ q ≤ n) ∧ s1 0 = s 0 + 1 := by
  have b1 := tE_bd (tp := tp) hp
  have b2 := tF_bd (tp := tp) hp
  unfold hiveP at h
  split at h
  · cases h
  · cases e1 : freshP tp n (tE tp n p) s N with
    | inl z => rw [bnd_l e1] at h; cases h
    | inr x =>
      obtain ⟨x, q1⟩ := x
      rw [bnd_r e1] at h
      have g1 := freshP_r b1.2 e1
      dsimp only at h
      cases e2 : wnumP tp n q1 3 1 3 with
      | inl z => rw [bnd_l e2] at h; cases h
      | inr x2 =>
        obtain ⟨v2, q2⟩ := x2
        rw [bnd_r e2] at h
        have g2 := wnumP_p g1.2.2.2.2 e2
        dsimp only at h
        cases e3 : wnumP tp n q2 4 1 4 with
        | inl z => rw [bnd_l e3] at h; cases h
        | inr x3 =>
          obtain ⟨v3, q3⟩ := x3
          rw [bnd_r e3] at h
          have g3 := wnumP_p g2.1.2 e3
          dsimp only at h
          cases e4 : wnumP tp n q3 5 0 9999 with
          | inl z => rw [bnd_l e4] at h; cases h
          | inr x4 =>
            obtain ⟨v4, q4⟩ := x4
            rw [bnd_r e4] at h
            have g4 := wnumP_p g3.1.2 e4
            dsimp only at h
            have b3 := tE_bd (tp := tp) g4.1.2
            have b4 := tF_bd (tp := tp) g4.1.2
            by_cases hw : tW tp n q4 = 6
            · rw [if_pos hw] at h
              cases e5 : numP tp n (tE tp n q4) 0 (16 * (v2 * v3)) with
              | inl z => rw [bnd_l e5] at h; cases h
              | inr x5 =>
                obtain ⟨v5, q5⟩ := x5
                rw [bnd_r e5] at h
                have g5 := numP_p b3.2 e5
                cases h
                exact ⟨by omega, if_pos rfl⟩
            · rw [if_neg hw] at h
              cases h
              exact ⟨by omega, if_pos rfl⟩
theorem droneP_p {tp : Int → Int} {n p q : Int} {s N s1 N1 : Int → Int} (hp : p ≤ n) (hs : 0 ≤ s 1) (h0 : 0 ≤ s 2) (h : droneP tp n p s N = .inr (q, s1, N1)) : (p ≤ q ∧ q ≤ n) ∧ s1 0 = s 0 := by
  have b1 := tE_bd (tp := tp) hp
  have b2 := tF_bd (tp := tp) hp
  unfold droneP at h
  split at h
  · cases h
  · cases e1 : freshP tp n (tE tp n p) s N with
    | inl z => rw [bnd_l e1] at h; cases h
    | inr x =>
      obtain ⟨x, q1⟩ := x
      rw [bnd_r e1] at h
      have g1 := freshP_r b1.2 e1
      dsimp only at h
      cases e2 : momP tp n q1 s N with
      | inl z => rw [bnd_l e2] at h; cases h
      | inr x2 =>
        obtain ⟨v2, q2⟩ := x2
        rw [bnd_r e2] at h
        have g2 := momP_r g1.2.2.2.2 hs e2
        cases h
        exact ⟨by omega, addD_n (by omega) (by omega) (by decide) (by decide)⟩
theorem homeP_p {tp : Int → Int} {n p x q : Int} {s N : Int → Int} (hp : p ≤ n) (hs : 0 ≤ s 0) (h : homeP tp n p s N = .inr (x, q)) : p ≤ q ∧ q ≤ n ∧ 0 ≤ x := by
  unfold homeP at h
  cases e : nameP tp n p with
  | inl e2 => rw [bnd_l e] at h; cases h
  | inr x2 =>
    rw [bnd_r e] at h
    have := name_p hp (nameP_r e).1
    have hb := fnd_bd (N := N) (b := 0) (c := s 0) (x := x2) hs
    split at h
    · cases h
    · split at h
      · cases h
      · cases h
        omega
theorem queenP_p {tp : Int → Int} {n p q : Int} {s N s1 N1 : Int → Int} (hp : p ≤ n) (hs : 0 ≤ s 1) (h0 : 0 ≤ s 0) (h2 : 0 ≤ s 2) (h : queenP tp n p s N = .inr (q, s1, N1)) : (p ≤ q ∧ q ≤ n) ∧ s1 0 = s 0 := by
  have b1 := tE_bd (tp := tp) hp
  have b2 := tF_bd (tp := tp) hp
  unfold queenP at h
  split at h
  · cases h
  · cases e1 : freshP tp n (tE tp n p) s N with
    | inl z => rw [bnd_l e1] at h; cases h
    | inr x =>
      obtain ⟨x, q1⟩ := x
      rw [bnd_r e1] at h
      have g1 := freshP_r b1.2 e1
      dsimp only at h
      cases e2 : wnumP tp n q1 8 0 16 with
      | inl z => rw [bnd_l e2] at h; cases h
      | inr x2 =>
        obtain ⟨v2, q2⟩ := x2
        rw [bnd_r e2] at h
        have g2 := wnumP_p g1.2.2.2.2 e2
        dsimp only at h
        cases e3 : momP tp n q2 s N with
        | inl z => rw [bnd_l e3] at h; cases h
        | inr x3 =>
          obtain ⟨v3, q3⟩ := x3
          rw [bnd_r e3] at h
          have g3 := momP_r g2.1.2 hs e3
          dsimp only at h
          have b3 := tE_bd (tp := tp) g3.2.2
          have b4 := tF_bd (tp := tp) g3.2.2
          have key : ∀ v4 q4 : Int, q3 ≤ q4 → q4 ≤ n → (bnd (if tW tp n q4 = 10 then homeP tp n (tE tp n q4) s N else .inr (-1, q4)) fun h => (.inr (h.2, addQ s v2 v3 v4 h.1, upA N (12 + s 1) x) : PR)) = .inr (q, s1, N1) → (p ≤ q ∧ q ≤ n) ∧ s1 0 = s 0 := by
            intro v4 q4 k1 k2 h
            have b5 := tE_bd (tp := tp) k2
            have b6 := tF_bd (tp := tp) k2
            by_cases hw : tW tp n q4 = 10
            · rw [if_pos hw] at h
              cases e5 : homeP tp n (tE tp n q4) s N with
              | inl z => rw [bnd_l e5] at h; cases h
              | inr x5 =>
                obtain ⟨v5, q5⟩ := x5
                rw [bnd_r e5] at h
                have g5 := homeP_p b5.2 h0 e5
                cases h
                exact ⟨by omega, addQ_n (by omega) (by decide) (by decide) (by omega)⟩
            · rw [if_neg hw] at h
              cases h
              exact ⟨by omega, addQ_n (by omega) (by decide) (by decide) (by omega)⟩
          by_cases hw : v3 ≠ -1 ∧ tW tp n q3 = 9
          · rw [if_pos hw] at h
            cases e4 : oldP tp n (tE tp n q3) N 4 (s 2) with
            | inl z => rw [bnd_l e4] at h; cases h
            | inr x4 =>
              obtain ⟨v4, q4⟩ := x4
              rw [bnd_r e4] at h
              have g4 := oldP_r b3.2 h2 e4
              exact key v4 q4 (by omega) (by omega) h
          · rw [if_neg hw] at h
            exact key (-1) q3 (Int.le_refl _) (by omega) h
