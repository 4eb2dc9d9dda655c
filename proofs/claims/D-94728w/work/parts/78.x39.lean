set_option maxRecDepth 100000
/-! the relations in a larger world where some tags of ownership were written -/
def TG (own own' : Int → Int) (sz sz' : Int) (im im' : Int → aIm) (ct ct' : Int → Int → Int) (F : Int → Prop) : Prop := sz ≤ sz' ∧ (∀ x, x < sz → im' x = im x) ∧ (∀ x, x < sz → ¬ F (own x) → ct' x = ct x) ∧ ∀ x, x < sz → ¬ F (own x) → own' x = own x
theorem TG.rf {own : Int → Int} {sz : Int} {im : Int → aIm} {ct : Int → Int → Int} {F : Int → Prop} : TG own own sz sz im im ct ct F := ⟨Int.le_refl _, fun _ _ => rfl, fun _ _ _ => rfl, fun _ _ _ => rfl⟩
theorem TG.trans {own own' own2 : Int → Int} {sz sz' sz2 : Int} {im im' im2 : Int → aIm} {ct ct' ct2 : Int → Int → Int} {F : Int → Prop} (h : TG own own' sz sz' im im' ct ct' F) (k : TG own' own2 sz' sz2 im' im2 ct' ct2 F) : TG own own2 sz sz2 im im2 ct ct2 F := by
  obtain ⟨a1, a2, a3, a4⟩ := h
  obtain ⟨b1, b2, b3, b4⟩ := k
  refine ⟨by omega, fun x hx => (b2 x (by omega)).trans (a2 x hx), fun x hx hf => ?_, fun x hx hf => ?_⟩
  · rw [b3 x (by omega) (by rw [a4 x hx hf]; exact hf)]; exact a3 x hx hf
  · rw [b4 x (by omega) (by rw [a4 x hx hf]; exact hf)]; exact a4 x hx hf
theorem TG.wide {own own' : Int → Int} {sz sz' : Int} {im im' : Int → aIm} {ct ct' : Int → Int → Int} {F : Int → Prop} {F' : Int → Prop} (h : TG own own' sz sz' im im' ct ct' F) (hF : ∀ t, F t → F' t) : TG own own' sz sz' im im' ct ct' F' := ⟨h.1, h.2.1, fun x hx hf => h.2.2.1 x hx fun z => hf (hF _ z), fun x hx hf => h.2.2.2 x hx fun z => hf (hF _ z)⟩
theorem tg_ob {own own' : Int → Int} {sz sz' : Int} {im im' : Int → aIm} {ct ct' : Int → Int → Int} {F : Int → Prop} {a : Int} {c : Nat} (T : TG own own' sz sz' im im' ct ct' F) (h : aob sz im a c) : aob sz' im' a c := ⟨h.1, by have h1 := h.2.1; have h2 := T.1; omega, by rw [T.2.1 _ h.2.1]; exact h.2.2⟩
theorem tg_ar {own own' : Int → Int} {sz sz' : Int} {im im' : Int → aIm} {ct ct' : Int → Int → Int} {F : Int → Prop} {a n : Int} {t : Nat} (T : TG own own' sz sz' im im' ct ct' F) (h : aar sz im a t n) : aar sz' im' a t n := ⟨h.1, by have h1 := h.2.1; have h2 := T.1; omega, by rw [T.2.1 _ h.2.1]; exact h.2.2⟩
theorem tg_c {own own' : Int → Int} {sz sz' : Int} {im im' : Int → aIm} {ct ct' : Int → Int → Int} {F : Int → Prop} {x t : Int} (T : TG own own' sz sz' im im' ct ct' F) (h : x < sz) (ho : own x = t) (hF : ¬ F t) : ct' x = ct x := T.2.2.1 x h (by rw [ho]; exact hF)
theorem tg_o {own own' : Int → Int} {sz sz' : Int} {im im' : Int → aIm} {ct ct' : Int → Int → Int} {F : Int → Prop} {x t : Int} (T : TG own own' sz sz' im im' ct ct' F) (h : x < sz) (ho : own x = t) (hF : ¬ F t) : own' x = t := by rw [T.2.2.2 x h (by rw [ho]; exact hF)]; exact ho
theorem LR.tg {own own' : Int → Int} {sz sz' : Int} {im im' : Int → aIm} {ct ct' : Int → Int → Int} {F : Int → Prop} {la : Int} {s N : Int → Int} (T : TG own own' sz sz' im im' ct ct' F) (hF : ¬ F (-1)) (H : LR own sz im ct la s N) : LR own' sz' im' ct' la s N := by
  obtain ⟨h1, ⟨a0, a1, a2, a3, a4⟩, ⟨o1, o2, o3, o4, o5, o6⟩, ⟨q1, q2⟩, h5, h6, h7⟩ := H
  have e := T.2.1 la h1.2.1
  unfold LR
  rw [e, tg_c T h1.2.1 o1 hF, tg_c T a0.2.1 o2 hF, tg_c T a1.2.1 o3 hF, tg_c T a2.2.1 o4 hF, tg_c T a3.2.1 o5 hF, tg_c T a4.2.1 o6 hF]
  exact ⟨tg_ob T h1, ⟨tg_ar T a0, tg_ar T a1, tg_ar T a2, tg_ar T a3, tg_ar T a4⟩, ⟨tg_o T h1.2.1 o1 hF, tg_o T a0.2.1 o2 hF, tg_o T a1.2.1 o3 hF, tg_o T a2.2.1 o4 hF, tg_o T a3.2.1 o5 hF, tg_o T a4.2.1 o6 hF⟩, ⟨q1, q2⟩, h5, h6, h7⟩
theorem STs.tg {own own' : Int → Int} {sz sz' : Int} {im im' : Int → aIm} {ct ct' : Int → Int → Int} {F : Int → Prop} {s : Int → Int} (T : TG own own' sz sz' im im' ct ct' F) (hF : ¬ F (-1)) : ∀ {n : Nat} {o i j : Int}, STs own sz im ct s n o i j → STs own' sz' im' ct' s n o i j
  | 0, _, _, _, h => h
  | n + 1, o, i, j, h => by
    obtain ⟨h1, h2, h3, h4⟩ := h
    rcases h4 with ⟨b1, b2⟩ | ⟨g1, g2, g3, g4, g5, cap, p, g6, g7, g8, g9, g10, g11, g12⟩
    · refine ⟨tg_o T b1.2.1 h1 hF, h2, h3, Or.inl ⟨tg_ob T b1, ?_⟩⟩
      rw [T.2.1 _ b1.2.1]
      exact b2
    · have ho : o < sz := by
        rcases g1 with ⟨q, -⟩ | ⟨q, -⟩
        · exact q.2.1
        · exact q.2.1
      have e := T.2.1 o ho
      have ec := tg_c T ho h1 hF
      have ec2 := tg_c T g6.2.1 g7 hF
      refine ⟨tg_o T ho h1 hF, h2, h3, Or.inr ⟨?_, g2, g3, g4, g5, cap, p, ?_, ?_, ?_, ?_, g10, ?_, fun k k0 k1 => ?_⟩⟩
      · rcases g1 with ⟨q, g1⟩ | ⟨q, g1⟩
        · exact Or.inl ⟨tg_ob T q, by rw [e]; exact g1⟩
        · exact Or.inr ⟨tg_ob T q, by rw [e]; exact g1⟩
      · rw [ec]; exact tg_ar T g6
      · rw [ec]; exact tg_o T g6.2.1 g7 hF
      · rw [ec]; exact g8
      · rw [ec]; exact g9
      · rw [ec]; exact g11
      · rw [ec] at k1 ⊢
        rw [ec2]
        exact STs.tg T hF (g12 k k0 k1)
theorem SE.tg {own own' : Int → Int} {sz sz' : Int} {im im' : Int → aIm} {ct ct' : Int → Int → Int} {F : Int → Prop} {s : Int → Int} {l : Int} (T : TG own own' sz sz' im im' ct ct' F) (hF : ¬ F (-1)) (H : SE own sz im ct s l) : SE own' sz' im' ct' s l := by
  rcases H with h | ⟨h1, h2, h3, h4, cap, p, g6, g7, g8, g9, g10, g11, g12⟩
  · exact Or.inl h
  · have ec := tg_c T h1.2.1 h2 hF
    have ec2 := tg_c T g6.2.1 g7 hF
    refine Or.inr ⟨tg_ob T h1, tg_o T h1.2.1 h2 hF, h3, h4, cap, p, ?_⟩
    rw [ec, ec2]
    exact ⟨tg_ar T g6, tg_o T g6.2.1 g7 hF, g8, g9, g10, g11, fun k k0 k1 => STs.tg T hF (g12 k k0 k1)⟩
theorem HvS.tg {own own' : Int → Int} {sz sz' : Int} {im im' : Int → aIm} {ct ct' : Int → Int → Int} {F : Int → Prop} {a n : Int} (T : TG own own' sz sz' im im' ct ct' F) (h : HvS sz im a n) : HvS sz' im' a n := h.mono T.1 T.2.1
theorem YH.tg {own own' : Int → Int} {sz sz' : Int} {im im' : Int → aIm} {ct ct' : Int → Int → Int} {F : Int → Prop} {t a : Int} {s : Int → Int} {h nm : Int} (T : TG own own' sz sz' im im' ct ct' F) (hF : ¬ F t) (H : YH own t sz im ct a s h nm) : YH own' t sz' im' ct' a s h nm := by
  have T2 : TG own own' sz sz' im im' ct (fun x => if x < sz then ct x else ct' x) F := ⟨T.1, T.2.1, fun x hx _ => if_pos hx, T.2.2.2⟩
  have hA : YH own t sz' im' (fun x => if x < sz then ct x else ct' x) a s h nm := H.mono T.1 T.2.1 (fun x hx => if_pos hx) (fun _ _ => rfl)
  obtain ⟨h1, h2, ⟨a1, a2, a3, a4, a5⟩, h4, h5, h6, h7, h8⟩ := H
  have e := T.2.1 a h1.1.2.1
  have ca : ∀ x j, x < sz → own x = t → ct' x j = (fun x => if x < sz then ct x else ct' x) x j := fun x j hx ho => by
    rw [tg_c T hx ho hF]
    show _ = (if x < sz then ct x else ct' x) j
    rw [if_pos hx]
  obtain ⟨g1, g2, ⟨b1, b2, b3, b4, b5⟩, g4, g5, g6, g7, g8⟩ := hA
  have q1 := h1.2.1.2.1
  have q2 := h1.2.2.1.2.1
  refine ⟨g1, ?_, ⟨?_, ?_, ?_, ?_, ?_⟩, g4, tg_o T h1.1.2.1 h5 hF, ?_, ?_, fun f f0 f1 => ?_⟩
  · have z : HvC sz' im' (fun x => if x < sz then ct x else ct' x) a (s h) (sh h s) := h2.mono h1 T.1 T.2.1 (fun x hx => if_pos hx)
    refine z.ext (fun j => ?_) (fun j => ?_) (fun f i f0 f1 i0 i1 => ?_) (fun _ _ _ => rfl)
    · rw [e]; exact ca _ j q2 h7
    · rw [e]; exact ca _ j q1 h6
    · have ef : (if (im' a).2.2 1 < sz then ct ((im' a).2.2 1) else ct' ((im' a).2.2 1)) f = ct ((im a).2.2 1) f := by rw [e, if_pos q1]
      rw [ef]
      exact ca _ i (h2.2.1 f f0 f1).2.1 (h8 f f0 f1)
  · rw [tg_c T h1.1.2.1 h5 hF]; exact a1
  · rw [tg_c T h1.1.2.1 h5 hF]; exact a2
  · rw [tg_c T h1.1.2.1 h5 hF]; exact a3
  · rw [tg_c T h1.1.2.1 h5 hF]; exact a4
  · rw [tg_c T h1.1.2.1 h5 hF]; exact a5
  · rw [e]; exact tg_o T q1 h6 hF
  · rw [e]; exact tg_o T q2 h7 hF
  · rw [e, tg_c T q1 h6 hF]; exact tg_o T (h2.2.1 f f0 f1).2.1 (h8 f f0 f1) hF
theorem YR.tg {own own' : Int → Int} {sz sz' : Int} {im im' : Int → aIm} {ct ct' : Int → Int → Int} {F : Int → Prop} {y ya : Int} {s : Int → Int} {dd : Int} {N : Int → Int} (T : TG own own' sz sz' im im' ct ct' F) (hF : ∀ t, 10 * y ≤ t → t < 10 * y + 10 → ¬ F t) (H : YR own y sz im ct ya s dd N) : YR own' y sz' im' ct' ya s dd N := by
  obtain ⟨h1, h2, h3, h4, h5, ha, hw, h6⟩ := H
  have e := T.2.1 ya h1.2.1
  have c := tg_c T h1.2.1 h2 (hF _ (by omega) (by omega))
  have c2 := tg_c T h3.2.1 h4 (hF _ (by omega) (by omega))
  unfold YR
  rw [e, c, c2]
  exact ⟨tg_ob T h1, tg_o T h1.2.1 h2 (hF _ (by omega) (by omega)), tg_ar T h3, tg_o T h3.2.1 h4 (hF _ (by omega) (by omega)), h5, ha, hw, fun j j0 j1 => YH.tg T (hF _ (by omega) (by omega)) (h6 j j0 j1)⟩
theorem RT.tg {own own' : Int → Int} {sz sz' : Int} {im im' : Int → aIm} {ct ct' : Int → Int → Int} {F : Int → Prop} (T : TG own own' sz sz' im im' ct ct' F) (h2 : ∀ x, x < sz → own x = -2 → own' x = -2) (h1 : ∀ t, 0 ≤ t → t < 4 → ct' 1 t = ct 1 t) (H : RT own sz im ct) : RT own' sz' im' ct' := by
  obtain ⟨⟨a0, o0⟩, he, ⟨a1, o1, ft⟩, ⟨a6, o6⟩, ⟨a7, o7⟩, ⟨a8, o8⟩, ⟨a9, o9, e10⟩, ⟨a19, o19⟩, ⟨a29, o29⟩⟩ := H
  refine ⟨⟨tg_ob T a0, h2 _ a0.2.1 o0⟩, by rw [T.2.1 _ a0.2.1]; exact he, ⟨tg_ar T a1, h2 _ a1.2.1 o1, fun t t0 t1 => ?_⟩, ⟨tg_ar T a6, h2 _ a6.2.1 o6⟩, ⟨tg_ob T a7, h2 _ a7.2.1 o7⟩, ⟨tg_ob T a8, h2 _ a8.2.1 o8⟩, ⟨tg_ob T a9, h2 _ a9.2.1 o9, by rw [T.2.1 _ a9.2.1]; exact e10⟩, ⟨tg_ar T a19, h2 _ a19.2.1 o19⟩, ⟨tg_ar T a29, h2 _ a29.2.1 o29⟩⟩
  obtain ⟨q1, q2, q3⟩ := ft t t0 t1
  exact ⟨by rw [h1 t t0 t1]; exact q1, tg_ob T q2, h2 _ q2.2.1 q3⟩
theorem TRY.tg {own own' : Int → Int} {sz sz' : Int} {im im' : Int → aIm} {ct ct' : Int → Int → Int} {F : Int → Prop} {cm cm' : Int → Int → Int} {t : Int} (T : TG own own' sz sz' im im' ct ct' F) (hF : ¬ F (-10 - t)) (e : ct' (2 + t) 0 = ct (2 + t) 0) (e3 : cm' 3 t = cm 3 t) (e4 : cm' 4 t = cm 4 t) (e5 : ∀ j, 0 ≤ j → j < 60 → cm' 5 (60 * t + j) = cm 5 (60 * t + j)) (H : TRY own sz im ct cm t) : TRY own' sz' im' ct' cm' t := by
  unfold TRY
  rw [e, e3, e4]
  rcases H with g | ⟨g1, g2, g3, g4, g5⟩
  · exact Or.inl g
  · exact Or.inr ⟨g1, g2, tg_ar T g3, tg_o T g3.2.1 g4 hF, fun j j0 j1 => by rw [tg_c T g3.2.1 g4 hF, e5 j j0 (by omega)]; exact g5 j j0 j1⟩
theorem MRK.tg {own own' : Int → Int} {sz sz' : Int} {im im' : Int → aIm} {ct ct' : Int → Int → Int} {F : Int → Prop} {cm cm' : Int → Int → Int} {j : Int} (j0 : 0 ≤ j) (T : TG own own' sz sz' im im' ct ct' F) (hF : ∀ t, 10 * (j + 1) ≤ t → t < 10 * (j + 1) + 10 → ¬ F t) (hF1 : ¬ F (-1)) (e : ct' 19 j = ct 19 j) (e0 : ct 19 j = -1 → cm 0 35 ≤ j → cm' 0 35 ≤ j) (e1 : j < cm' 0 35 → j < cm 0 35 ∧ slt cm' (j + 1) = slt cm (j + 1) ∧ nms cm' (j + 1) = nms cm (j + 1)) (H : MRK own sz im ct cm j) : MRK own' sz' im' ct' cm' j := by
  unfold MRK
  rw [e]
  rcases H with ⟨g, g0⟩ | ⟨g1, g2, ⟨s, dd, N, g3⟩, g4⟩
  · exact Or.inl ⟨g, e0 g g0⟩
  · have ei := T.2.1 _ g1.2.1
    have ec := tg_c T g1.2.1 g2 (hF _ (by omega) (by omega))
    have ey := tg_c T g3.1.2.1 g3.2.1 (hF _ (by omega) (by omega))
    rw [ei, ec, ey]
    refine Or.inr ⟨tg_ob T g1, tg_o T g1.2.1 g2 (hF _ (by omega) (by omega)), ⟨s, dd, N, YR.tg T hF g3⟩, fun hj => ?_⟩
    obtain ⟨q1, q2, q3⟩ := e1 hj
    obtain ⟨k1, N2, k2, k3, k4, k5⟩ := g4 q1
    rw [q2, q3]
    exact ⟨k1, N2, YR.tg T hF k2, LR.tg T hF1 k3, k4, SE.tg T hF1 k5⟩
