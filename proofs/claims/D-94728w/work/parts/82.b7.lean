set_option maxRecDepth 100000
/-! BeeYardModel reads: a step of a season, 2 -/
theorem SS.m0 {a b : Int → Int → Int} {R op : Int → Int} {m dep cnt : Int} (h : SS a R m dep op cnt) (f : M0 a b) : SS b R m dep op cnt := by
  unfold SS
  rw [f.2 1 (by decide), f.2 8 (by decide), f.1 21 (by decide), f.1 22 (by decide)]
  exact h
theorem RWm.row {c R : Int → Int} {m kk a b g e : Int} (h : RWm c (5780 + 6 * m) kk a b g e) (ho : ∀ i, 860 ≤ i → i < 1225 → (i < 860 + 6 * m ∨ 866 + 6 * m ≤ i) → c (4920 + i) = R i) : ∀ i, 860 ≤ i → i < 1225 → c (4920 + i) = rowW R m kk a b g e i := fun i i0 i1 => by
  obtain ⟨h0, h1, h2, h3, h4, h5⟩ := h
  unfold rowW
  by_cases z0 : i = 860 + 6 * m
  · rw [if_pos z0, show 4920 + i = 5780 + 6 * m by omega]; exact h0
  rw [if_neg z0]
  by_cases z1 : i = 861 + 6 * m
  · rw [if_pos z1, show 4920 + i = 5780 + 6 * m + 1 by omega]; exact h1
  rw [if_neg z1]
  by_cases z2 : i = 862 + 6 * m
  · rw [if_pos z2, show 4920 + i = 5780 + 6 * m + 2 by omega]; exact h2
  rw [if_neg z2]
  by_cases z3 : i = 863 + 6 * m
  · rw [if_pos z3, show 4920 + i = 5780 + 6 * m + 3 by omega]; exact h3
  rw [if_neg z3]
  by_cases z4 : i = 864 + 6 * m
  · rw [if_pos z4, show 4920 + i = 5780 + 6 * m + 4 by omega]; exact h4
  rw [if_neg z4]
  by_cases z5 : i = 865 + 6 * m
  · rw [if_pos z5, show 4920 + i = 5780 + 6 * m + 5 by omega]; exact h5
  rw [if_neg z5]
  exact ho i i0 i1 (by omega)
theorem L_m_stw {cm cmX : Int → Int → Int} {R op tp : Int → Int} {n q m dep cnt : Int} {x1 x2 x3 x4 x5 : Option aV} {Q : aPost} {d kc ks : Nat} (hd : 4 ≤ d) (HW : RM cmX tp n q) (fX : MF cm cmX) (hSS : SS cmX R m dep op cnt) (hF : ∀ cm1 : Int → Int → Int, ¬ sgn tp n q 59 → MB cm cm1 (wr tp n q) (tF tp n q) → Q (.inl (some (vI 0))) (gM cm1)) (hQ : ∀ cm1 : Int → Int → Int, sgn tp n q 59 → RM cm1 tp n (tE tp n q) → MF cm cm1 → SS cm1 R m dep op cnt → Q (.inl (some (vI 1))) (gM cm1)) : AW (mq Q) md_X7_step d kc ks 279 [some (vR 0), x1, x2, x3, x4, x5] [] (gM cmX) := by
  refine aw_aload_n dX7_step_279 rfl ?_
  refine aw_bipush dX7_step_280 (by decide) ?_
  refine c_X7_204 rfl dX7_step_282 m_ob (Nat.le_of_ble_eq_true rfl) (by omega) (C_m_wantSign HW (fun cm1 hs hb => ?_) (fun cm1 hs H1 f1 => ?_))
  · refine aK_i ?_
    refine aw_zreturn dX7_step_285 rfl (Or.inl rfl) ?_
    exact hF _ hs (fX.b hb)
  · refine aK_i ?_
    refine aw_zreturn dX7_step_285 rfl (Or.inr rfl) ?_
    exact hQ _ hs H1 (fX.trans f1.mf) (hSS.m0 f1)
