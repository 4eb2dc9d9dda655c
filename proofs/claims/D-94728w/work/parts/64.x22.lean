set_option maxRecDepth 100000
/-! the relations in a larger world, and with other marks of ownership -/
abbrev TRn (own own' : Int → Int) (sz sz' : Int) (im im' : Int → aIm) (ct ct' : Int → Int → Int) : Prop := sz ≤ sz' ∧ (∀ x, x < sz → im' x = im x) ∧ (∀ x, x < sz → ct' x = ct x) ∧ ∀ x, x < sz → ¬ (0 ≤ own x ∧ own x < 10) → own' x = own x
theorem tr_ob {own own' : Int → Int} {sz sz' : Int} {im im' : Int → aIm} {ct ct' : Int → Int → Int} {a : Int} {c : Nat} (T : TRn own own' sz sz' im im' ct ct') (h : aob sz im a c) : aob sz' im' a c := ⟨h.1, by have h1 := h.2.1; have h2 := T.1; omega, by rw [T.2.1 _ h.2.1]; exact h.2.2⟩
theorem tr_ar {own own' : Int → Int} {sz sz' : Int} {im im' : Int → aIm} {ct ct' : Int → Int → Int} {a n : Int} {t : Nat} (T : TRn own own' sz sz' im im' ct ct') (h : aar sz im a t n) : aar sz' im' a t n := ⟨h.1, by have h1 := h.2.1; have h2 := T.1; omega, by rw [T.2.1 _ h.2.1]; exact h.2.2⟩
theorem tr_c {own own' : Int → Int} {sz sz' : Int} {im im' : Int → aIm} {ct ct' : Int → Int → Int} {x : Int} (T : TRn own own' sz sz' im im' ct ct') (h : x < sz) : ct' x = ct x := T.2.2.1 x h
theorem tr_o {own own' : Int → Int} {sz sz' : Int} {im im' : Int → aIm} {ct ct' : Int → Int → Int} {x t : Int} (T : TRn own own' sz sz' im im' ct ct') (h : x < sz) (h2 : own x = t) (ht : t < 0 ∨ 10 ≤ t) : own' x = t := by rw [T.2.2.2 x h (by omega)]; exact h2
theorem LR.tr {own own' : Int → Int} {sz sz' : Int} {im im' : Int → aIm} {ct ct' : Int → Int → Int} {la : Int} {s N : Int → Int} (T : TRn own own' sz sz' im im' ct ct') (H : LR own sz im ct la s N) : LR own' sz' im' ct' la s N := by
  obtain ⟨h1, ⟨a0, a1, a2, a3, a4⟩, ⟨o1, o2, o3, o4, o5, o6⟩, ⟨q1, q2⟩, h5, h6, h7⟩ := H
  have e := T.2.1 la h1.2.1
  unfold LR
  rw [e, tr_c T h1.2.1, tr_c T a0.2.1, tr_c T a1.2.1, tr_c T a2.2.1, tr_c T a3.2.1, tr_c T a4.2.1]
  exact ⟨tr_ob T h1, ⟨tr_ar T a0, tr_ar T a1, tr_ar T a2, tr_ar T a3, tr_ar T a4⟩, ⟨tr_o T h1.2.1 o1 (by omega), tr_o T a0.2.1 o2 (by omega), tr_o T a1.2.1 o3 (by omega), tr_o T a2.2.1 o4 (by omega), tr_o T a3.2.1 o5 (by omega), tr_o T a4.2.1 o6 (by omega)⟩, ⟨q1, q2⟩, h5, h6, h7⟩
theorem STs.tr {own own' : Int → Int} {sz sz' : Int} {im im' : Int → aIm} {ct ct' : Int → Int → Int} {s : Int → Int} (T : TRn own own' sz sz' im im' ct ct') : ∀ {n : Nat} {o i j : Int}, STs own sz im ct s n o i j → STs own' sz' im' ct' s n o i j
  | 0, _, _, _, h => h
  | n + 1, o, i, j, h => by
    obtain ⟨h1, h2, h3, h4⟩ := h
    rcases h4 with ⟨b1, b2⟩ | ⟨g1, g2, g3, g4, g5, cap, p, g6, g7, g8, g9, g10, g11, g12⟩
    · refine ⟨tr_o T b1.2.1 h1 (by omega), h2, h3, Or.inl ⟨tr_ob T b1, ?_⟩⟩
      rw [T.2.1 _ b1.2.1]
      exact b2
    · have ho : o < sz := by
        rcases g1 with ⟨q, -⟩ | ⟨q, -⟩
        · exact q.2.1
        · exact q.2.1
      have e := T.2.1 o ho
      have ec := tr_c T ho
      have ec2 := tr_c T g6.2.1
      refine ⟨tr_o T ho h1 (by omega), h2, h3, Or.inr ⟨?_, g2, g3, g4, g5, cap, p, ?_, ?_, ?_, ?_, g10, ?_, fun k k0 k1 => ?_⟩⟩
      · rcases g1 with ⟨q, g1⟩ | ⟨q, g1⟩
        · exact Or.inl ⟨tr_ob T q, by rw [e]; exact g1⟩
        · exact Or.inr ⟨tr_ob T q, by rw [e]; exact g1⟩
      · rw [ec]; exact tr_ar T g6
      · rw [ec]; exact tr_o T g6.2.1 g7 (by omega)
      · rw [ec]; exact g8
      · rw [ec]; exact g9
      · rw [ec]; exact g11
      · rw [ec] at k1 ⊢
        rw [ec2]
        exact STs.tr T (g12 k k0 k1)
theorem SE.tr {own own' : Int → Int} {sz sz' : Int} {im im' : Int → aIm} {ct ct' : Int → Int → Int} {s : Int → Int} {l : Int} (T : TRn own own' sz sz' im im' ct ct') (H : SE own sz im ct s l) : SE own' sz' im' ct' s l := by
  rcases H with h | ⟨h1, h2, h3, h4, cap, p, g6, g7, g8, g9, g10, g11, g12⟩
  · exact Or.inl h
  · have ec := tr_c T h1.2.1
    have ec2 := tr_c T g6.2.1
    refine Or.inr ⟨tr_ob T h1, tr_o T h1.2.1 h2 (by omega), h3, h4, cap, p, ?_⟩
    rw [ec, ec2]
    exact ⟨tr_ar T g6, tr_o T g6.2.1 g7 (by omega), g8, g9, g10, g11, fun k k0 k1 => STs.tr T (g12 k k0 k1)⟩
theorem YH.tr {own own' : Int → Int} {sz sz' : Int} {im im' : Int → aIm} {ct ct' : Int → Int → Int} {t a : Int} {s : Int → Int} {h nm : Int} (T : TRn own own' sz sz' im im' ct ct') (ht : 10 ≤ t) (H : YH own t sz im ct a s h nm) : YH own' t sz' im' ct' a s h nm := by
  obtain ⟨h1, h2, ⟨a1, a2, a3, a4, a5⟩, h4, h5, h6, h7, h8⟩ := H
  have e := T.2.1 a h1.1.2.1
  have c := tr_c T h1.1.2.1
  refine ⟨h1.mono T.1 T.2.1, h2.mono h1 T.1 T.2.1 T.2.2.1, ⟨by rw [c]; exact a1, by rw [c]; exact a2, by rw [c]; exact a3, by rw [c]; exact a4, by rw [c]; exact a5⟩, by rw [e]; exact h4, tr_o T h1.1.2.1 h5 (by omega), ?_, ?_, fun f f0 f1 => ?_⟩
  · rw [e]; exact tr_o T h1.2.1.2.1 h6 (by omega)
  · rw [e]; exact tr_o T h1.2.2.1.2.1 h7 (by omega)
  · rw [e, tr_c T h1.2.1.2.1]; exact tr_o T (h2.2.1 f f0 f1).2.1 (h8 f f0 f1) (by omega)
theorem YR.tr {own own' : Int → Int} {sz sz' : Int} {im im' : Int → aIm} {ct ct' : Int → Int → Int} {y ya : Int} {s : Int → Int} {dd : Int} {N : Int → Int} (T : TRn own own' sz sz' im im' ct ct') (hy : 1 ≤ y) (H : YR own y sz im ct ya s dd N) : YR own' y sz' im' ct' ya s dd N := by
  obtain ⟨h1, h2, h3, h4, h5, ha, hw, h6⟩ := H
  have e := T.2.1 ya h1.2.1
  have c := tr_c T h1.2.1
  have c2 := tr_c T h3.2.1
  unfold YR
  rw [e, c, c2]
  exact ⟨tr_ob T h1, tr_o T h1.2.1 h2 (by omega), tr_ar T h3, tr_o T h3.2.1 h4 (by omega), h5, ha, hw, fun j j0 j1 => YH.tr T (by omega) (h6 j j0 j1)⟩
theorem RT.tr {own own' : Int → Int} {sz sz' : Int} {im im' : Int → aIm} {ct ct' : Int → Int → Int} (T : TRn own own' sz sz' im im' ct ct') (H : RT own sz im ct) : RT own' sz' im' ct' := by
  obtain ⟨⟨a0, o0⟩, he, ⟨a1, o1, ft⟩, ⟨a6, o6⟩, ⟨a7, o7⟩, ⟨a8, o8⟩, ⟨a9, o9, e10⟩, ⟨a19, o19⟩, ⟨a29, o29⟩⟩ := H
  refine ⟨⟨tr_ob T a0, tr_o T a0.2.1 o0 (by omega)⟩, by rw [T.2.1 _ a0.2.1]; exact he, ⟨tr_ar T a1, tr_o T a1.2.1 o1 (by omega), fun t t0 t1 => ?_⟩, ⟨tr_ar T a6, tr_o T a6.2.1 o6 (by omega)⟩, ⟨tr_ob T a7, tr_o T a7.2.1 o7 (by omega)⟩, ⟨tr_ob T a8, tr_o T a8.2.1 o8 (by omega)⟩, ⟨tr_ob T a9, tr_o T a9.2.1 o9 (by omega), by rw [T.2.1 _ a9.2.1]; exact e10⟩, ⟨tr_ar T a19, tr_o T a19.2.1 o19 (by omega)⟩, ⟨tr_ar T a29, tr_o T a29.2.1 o29 (by omega)⟩⟩
  obtain ⟨q1, q2, q3⟩ := ft t t0 t1
  exact ⟨by rw [tr_c T a1.2.1]; exact q1, tr_ob T q2, tr_o T q2.2.1 q3 (by omega)⟩
theorem XO.tr {own own' : Int → Int} {sz sz' : Int} {im im' : Int → aIm} {ct ct' : Int → Int → Int} {cm : Int → Int → Int} (T : TRn own own' sz sz' im im' ct ct') (hR : RT own sz im ct) (H : XO own sz im ct cm) : XO own' sz' im' ct' cm := by
  obtain ⟨⟨a0, o0⟩, he, ⟨a1, o1, ft⟩, ⟨a6, o6⟩, ⟨a7, o7⟩, ⟨a8, o8⟩, ⟨a9, o9, e10⟩, ⟨a19, o19⟩, ⟨a29, o29⟩⟩ := hR
  obtain ⟨h1, ⟨h2, h3, h4⟩, ⟨s, dd, N, h5⟩, h6, h12, h13⟩ := H
  refine ⟨fun t t0 t1 => ?_, ⟨h2, by rw [tr_c T a0.2.1]; exact h3, fun j j0 j1 => ?_⟩, ⟨s, dd, N, YR.tr T (by omega) h5⟩, by rw [tr_c T a0.2.1]; exact h6, by rw [tr_c T a6.2.1]; exact h12, by rw [tr_c T a29.2.1]; exact h13⟩
  · obtain ⟨q1, q2, q3⟩ := ft t t0 t1
    have e := tr_c T q2.2.1
    unfold TRY
    rw [e]
    rcases h1 t t0 t1 with g | ⟨g1, g2, g3, g4, g5⟩
    · exact Or.inl g
    · exact Or.inr ⟨g1, g2, tr_ar T g3, tr_o T g3.2.1 g4 (by omega), by rw [tr_c T g3.2.1]; exact g5⟩
  · have e := tr_c T a19.2.1
    unfold MRK
    rw [e]
    rcases h4 j j0 j1 with g | ⟨g1, g2, ⟨s, dd, N, g3⟩, g4⟩
    · exact Or.inl g
    · have ei := T.2.1 _ g1.2.1
      have ec := tr_c T g1.2.1
      have ey := tr_c T g3.1.2.1
      rw [ei, ec, ey]
      refine Or.inr ⟨tr_ob T g1, tr_o T g1.2.1 g2 (by omega), ⟨s, dd, N, YR.tr T (by omega) g3⟩, fun hj => ?_⟩
      obtain ⟨k1, N2, k2, k3, k4, k5⟩ := g4 hj
      exact ⟨k1, N2, YR.tr T (by omega) k2, LR.tr T k3, k4, SE.tr T k5⟩
theorem XR.mono {sz sz' : Int} {im im' : Int → aIm} {ct ct' cm : Int → Int → Int} (h : XR (sz, im, ct) cm) (hz : sz ≤ sz') (hi : ∀ x, x < sz → im' x = im x) (hc : ∀ x, x < sz → ct' x = ct x) : XR (sz', im', ct') cm := by
  obtain ⟨own, N, hR, HY, HL, HN, HS, HP, HF, HX, hv2, hv3, hv4⟩ := h
  dsimp only at hR HY HL HS HX hv2 hv3 hv4
  have T : TRn own own sz sz' im im' ct ct' := ⟨hz, hi, hc, fun _ _ _ => rfl⟩
  have e0 := hc 0 hR.1.1.2.1
  have e9 := hc 9 hR.o9.2.1
  have e10 := hc 10 HY.1.2.1
  exact ⟨own, N, RT.tr T hR, HY.mono hz hi hc fun _ _ => rfl, by show LR own sz' im' ct' (ct' 10 0) (cm 1) N; rw [e10]; exact LR.tr T HL, HN, by show SE own sz' im' ct' (cm 1) (ct' 9 1); rw [e9]; exact SE.tr T HS, HP, HF, XO.tr T hR HX, by show ct' 0 7 = _ ∧ ct' 0 8 = _ ∧ ct' 0 9 = _; rw [e0]; exact ⟨hv2, hv3, hv4⟩⟩
