set_option maxRecDepth 100000
/-! AW, part 4: rules of the heap, of calls, of ends (printed by aw4.py) -/
theorem Int.nat_of {a : Int} (h : 0 ≤ a) : ∃ n : Nat, a = (n : Int) := ⟨a.toNat, by omega⟩
/-- an object's cell -/
theorem relE.obj {dA : Nat → ClassId} {sA : Nat → Nat} {ad : Int → Nat} {sz : Int} {k : aIm} {f : Int → Int} {e : va_E} {c : Nat} {q : vw_C} (h : relE dA sA ad sz k f e) (hk : k.1 = c) (hc : awCl[c]? = some q) :
    ∃ fs : List Value, e = .inr (c, fs) ∧ fs.length = q.2.2 ∧ ∀ i : Nat, i < q.2.2 → vkT sA ad sz (awTy c i) (if (q.2.1 i).2.2.2 = true then k.2.2 i else f i) (vp_V fs i) := by
  have hlt : c < 14 := (List.getElem?_eq_some_iff.mp hc).1
  rcases h with ⟨q', fs, h1, h2, h3, h4⟩ | ⟨t, h1, -⟩ | ⟨h1, -⟩ | ⟨t, h1, -⟩
  · rw [hk] at h1 h2 h4
    cases Option.some.inj (h1.symm.trans hc)
    exact ⟨fs, h2, h3, h4⟩
  · omega
  · omega
  · omega
theorem relE.sm {dA : Nat → ClassId} {sA : Nat → Nat} {ad : Int → Nat} {sz : Int} {k : aIm} {f : Int → Int} {e : va_E} {t : Nat} (h : relE dA sA ad sz k f e) (hk : k.1 = 50 + t) (ht : t < 3) :
    k.2.1 < 2147483648 ∧ ∃ g : Nat → Int32, e = .inl (dA t, k.2.1, .inl g) ∧ ∀ j : Nat, j < k.2.1 → f j = (g j).toInt ∧ fits (eT t) (.int (g j)) = true := by
  rcases h with ⟨q', fs, h1, -⟩ | ⟨t', h1, h2, h3, g, h4, h5⟩ | ⟨h1, -⟩ | ⟨t', h1, h2, -⟩
  · have hlt : k.1 < 14 := (List.getElem?_eq_some_iff.mp h1).1
    omega
  · have e1 : t' = t := by omega
    subst e1
    exact ⟨h3, g, h4, h5⟩
  · omega
  · omega
theorem relE.lg {dA : Nat → ClassId} {sA : Nat → Nat} {ad : Int → Nat} {sz : Int} {k : aIm} {f : Int → Int} {e : va_E} (h : relE dA sA ad sz k f e) (hk : k.1 = 50 + 3) :
    k.2.1 < 2147483648 ∧ ∃ g : Nat → Int64, e = .inl (dA 3, k.2.1, .inr (.inl g)) ∧ ∀ j : Nat, j < k.2.1 → f j = (g j).toInt := by
  rcases h with ⟨q', fs, h1, -⟩ | ⟨t', h1, h2, -⟩ | ⟨h1, h3, g, h4, h5⟩ | ⟨t', h1, h2, -⟩
  · have hlt : k.1 < 14 := (List.getElem?_eq_some_iff.mp h1).1
    omega
  · omega
  · exact ⟨h3, g, h4, h5⟩
  · omega
theorem relE.rf {dA : Nat → ClassId} {sA : Nat → Nat} {ad : Int → Nat} {sz : Int} {k : aIm} {f : Int → Int} {e : va_E} {t : Nat} (h : relE dA sA ad sz k f e) (hk : k.1 = 50 + t) (ht : 4 ≤ t) :
    t < 9 ∧ k.2.1 < 2147483648 ∧ ∃ g : Nat → Option Nat, e = .inl (dA t, k.2.1, .inr (.inr (.inr (.inr g)))) ∧ ∀ j : Nat, j < k.2.1 → refO ad sz (f j) (g j) := by
  rcases h with ⟨q', fs, h1, -⟩ | ⟨t', h1, h2, -⟩ | ⟨h1, -⟩ | ⟨t', h1, h2, h2', h3, g, h4, h5⟩
  · have hlt : k.1 < 14 := (List.getElem?_eq_some_iff.mp h1).1
    omega
  · omega
  · omega
  · have e1 : t' = t := by omega
    subst e1
    exact ⟨h2', h3, g, h4, h5⟩
/-- every array's cell: its class and length -/
theorem relE.ar {dA : Nat → ClassId} {sA : Nat → Nat} {ad : Int → Nat} {sz : Int} {k : aIm} {f : Int → Int} {e : va_E} {t : Nat} (h : relE dA sA ad sz k f e) (hk : k.1 = 50 + t) : t < 9 ∧ k.2.1 < 2147483648 ∧ ∃ x : vp_A, e = .inl (dA t, x) ∧ x.1 = k.2.1 := by
  by_cases h3 : t < 3
  · obtain ⟨h1, g, h2, -⟩ := h.sm hk h3
    exact ⟨by omega, h1, _, h2, rfl⟩
  · by_cases h4 : t = 3
    · subst h4
      obtain ⟨h1, g, h2, -⟩ := h.lg hk
      exact ⟨by omega, h1, _, h2, rfl⟩
    · obtain ⟨h0, h1, g, h2, -⟩ := h.rf hk (by omega)
      exact ⟨h0, h1, _, h2, rfl⟩
theorem HR.weak {D : va_G} {dA : Nat → ClassId} {sA : Nat → Nat} {A B : Nat → Prop} {ad : Int → Nat} {G : aG} {H : Heap} (hAB : ∀ q, A q → B q) (h : HR D dA sA A ad G H) : HR D dA sA B ad G H := by
  obtain ⟨n, E, h1, h2, h3, h4⟩ := h
  exact ⟨n, E, h1, h2, h3, h4.weaken fun _ q _ hq => hAB _ hq⟩
theorem HR.self {D : va_G} {dA : Nat → ClassId} {sA : Nat → Nat} {A : Nat → Prop} {ad : Int → Nat} {G : aG} {H : Heap} {hs : Nat} (h : HR D dA sA A ad G H) : HR D dA sA (aFR G.1 ad hs) ad G H := by
  obtain ⟨n, E, h1, h2, h3, h4⟩ := h
  refine ⟨n, E, h1, h2, h3, h4.1, fun k q hk => ?_⟩
  obtain ⟨hlt, rfl⟩ := wsl_get' hk
  exact Or.inl ⟨k, by omega, by rw [h1]; omega, rfl⟩
theorem HR.inA {D : va_G} {dA : Nat → ClassId} {sA : Nat → Nat} {A : Nat → Prop} {ad : Int → Nat} {G : aG} {H : Heap} (h : HR D dA sA A ad G H) {a : Int} (h0 : 0 ≤ a) (hl : a < G.1) : A (ad a) := by
  obtain ⟨n, E, h1, h2, h3, h4⟩ := h
  obtain ⟨b, rfl⟩ := Int.nat_of h0
  exact h4.2 b _ (wsl_get (by omega))
theorem HR.up {D : va_G} {dA : Nat → ClassId} {sA : Nat → Nat} {A : Nat → Prop} {ad : Int → Nat} {sz : Int} {im im' : Int → aIm} {ct ct' : Int → Int → Int} {H : Heap} {n a : Nat} {E : Nat → va_E} {e : va_E} (hn : sz = (n : Int)) (h2 : ∀ b : Nat, b < n → relE dA sA ad sz (im b) (ct b) (E b)) (ha : a < n)
    (hP : va_P D awCl ((wsl n ad E).set a (ad a, e)) H) (hD : va_D A ((wsl n ad E).set a (ad a, e))) (he : relE dA sA ad sz (im' a) (ct' a) e) (ho : ∀ b : Nat, b < n → b ≠ a → im' b = im b ∧ ct' b = ct b) : HR D dA sA A ad (sz, im', ct') H := by
  rw [wsl_set ha] at hP hD
  refine ⟨n, _, hn, fun b hb => ?_, hP, hD⟩
  by_cases hba : b = a
  · subst hba
    simp only [va_up, if_true]
    exact he
  · simp only [va_up, if_neg hba]
    rw [(ho b hb hba).1, (ho b hb hba).2]
    exact h2 b hb
theorem HR.push {D : va_G} {dA : Nat → ClassId} {sA : Nat → Nat} {A : Nat → Prop} {ad : Int → Nat} {sz : Int} {im im' : Int → aIm} {ct ct' : Int → Int → Int} {H : Heap} {n q : Nat} {E : Nat → va_E} {e : va_E} (hn : sz = (n : Int)) (h2 : ∀ b : Nat, b < n → relE dA sA ad sz (im b) (ct b) (E b))
    (hP : va_P D awCl (wsl n ad E ++ [(q, e)]) H) (hD : va_D A (wsl n ad E ++ [(q, e)])) (he : relE dA sA (adp ad n q) (sz + 1) (im' n) (ct' n) e) (ho : ∀ b : Nat, b < n → im' b = im b ∧ ct' b = ct b) : HR D dA sA A (adp ad n q) (sz + 1, im', ct') H := by
  rw [wsl_push] at hP hD
  refine ⟨n + 1, _, by show sz + 1 = _; omega, fun b hb => ?_, hP, hD⟩
  by_cases hba : b = n
  · subst hba
    simp only [va_up, if_true]
    exact he
  · simp only [va_up, if_neg hba]
    rw [(ho b (by omega)).1, (ho b (by omega)).2]
    exact (h2 b (by omega)).mono (by rw [hn]; exact adp_ex)
def upA {α : Type} (f : Int → α) (a : Int) (v : α) : Int → α := fun b => if b = a then v else f b
theorem upA_s {α : Type} {f : Int → α} {a : Int} {v : α} : upA f a v a = v := if_pos rfl
theorem upA_n {α : Type} {f : Int → α} {a b : Int} {v : α} (h : b ≠ a) : upA f a v b = f b := if_neg h
/-- a final field set -/
def imf (im : Int → aIm) (a i v : Int) : Int → aIm := fun b => if b = a then ((im a).1, (im a).2.1, fun j => if j = i then v else (im a).2.2 j) else im b
theorem aob_imf {sz : Int} {im : Int → aIm} {a i v b : Int} {c : Nat} (h : aob sz im b c) : aob sz (imf im a i v) b c := by
  refine ⟨h.1, h.2.1, ?_⟩
  unfold imf
  split
  · rename_i e
    rw [← e]; exact h.2.2
  · exact h.2.2
theorem aar_imf {sz : Int} {im : Int → aIm} {a i v b : Int} {t : Nat} {n : Int} (h : aar sz im b t n) : aar sz (imf im a i v) b t n := by
  refine ⟨h.1, h.2.1, ?_⟩
  unfold imf
  split
  · rename_i e
    rw [← e]; exact h.2.2
  · exact h.2.2
theorem aob_new {sz : Int} {im : Int → aIm} {b : Int} {c : Nat} {k : aIm} (h : aob sz im b c) : aob (sz + 1) (upA im sz k) b c := ⟨h.1, by have := h.2.1; omega, by rw [upA_n (by have := h.2.1; omega)]; exact h.2.2⟩
theorem aar_new {sz : Int} {im : Int → aIm} {b : Int} {t : Nat} {n : Int} {k : aIm} (h : aar sz im b t n) : aar (sz + 1) (upA im sz k) b t n := ⟨h.1, by have := h.2.1; omega, by rw [upA_n (by have := h.2.1; omega)]; exact h.2.2⟩
theorem aob_at {sz : Int} {im : Int → aIm} {c n : Nat} {f : Int → Int} (h : 0 ≤ sz) : aob (sz + 1) (upA im sz (c, n, f)) sz c := ⟨h, by omega, by rw [upA_s]⟩
theorem aar_at {sz : Int} {im : Int → aIm} {t n : Nat} {f : Int → Int} (h : 0 ≤ sz) : aar (sz + 1) (upA im sz (50 + t, n, f)) sz t n := ⟨h, by omega, by rw [upA_s], by rw [upA_s]⟩
/-- a link of a field in M's pool -/
theorem vokR {sA : Nat → Nat} {ad : Int → Nat} {sz : Int} {b : Nat} {v : Value} (h : vok sA ad sz (vR (b : Int)) v) : v = .ref (ad (b : Int)) := by
  rcases h with ⟨h1, -⟩ | ⟨-, -, h1⟩ | ⟨k, h1, -⟩ | ⟨h1, -⟩
  · omega
  · exact h1
  · omega
  · omega
theorem vokR2 {sA : Nat → Nat} {ad : Int → Nat} {sz : Int} {b : Int} {v : Value} (h : vok sA ad sz (vR b) v) (h0 : 0 ≤ b) : v = .ref (ad b) ∧ b < sz := by
  rcases h with ⟨h1, -⟩ | ⟨-, h2, h1⟩ | ⟨k, h1, -⟩ | ⟨h1, -⟩
  · omega
  · exact ⟨h1, h2⟩
  · omega
  · omega
def flk (M : aMD) (i : Nat) (r n d : String) : Prop := Cond.fieldLink M.1.cls i r n d ∈ lw_all ∨ ∃ h, Cond.fieldLinkNest M.1.cls i r n d h ∈ lw_tbl
theorem aw_get {Z : aZ} {M : aMD} {d kc ks pc : Nat} {L : List (Option aV)} {st : List aV} {sz : Int} {im : Int → aIm} {ct : Int → Int → Int} {a : Int} {c k i : Nat} {q : vw_C} {v : aV} (hd : decode M.2.1 pc = .ok (.getfield i, 3)) (ho : aob sz im a c) (hc : awCl[c]? = some q) (hk : k < q.2.2) (hq : flk M i (q.2.1 k).1 (q.2.1 k).2.1 (q.2.1 k).2.2.1)
    (hv : vtag (awTy c k) (if (q.2.1 k).2.2.2 = true then (im a).2.2 k else ct a k) = v) (kk : AW Z M d kc ks (pc + 3) L (v :: st) (sz, im, ct)) : AW Z M d kc ks pc L (vR a :: st) (sz, im, ct) := by
  intro p l e R s m args below meth c0 D dA sA A ad0 sz0 mc ms C ad H locs cells slots ls rst hE hH hL hst hS hk1 hk2
  obtain ⟨hx, hb, hml, hown, hts, hret, hlk, hnm, htab, hR, hV, hA⟩ := id C
  obtain ⟨_, rs, rfl, h1, hst⟩ := hst
  obtain ⟨n, E, hn, h2, hP, hD⟩ := id hH
  try dsimp only at h2
  obtain ⟨o0, o1, o2⟩ := ho
  obtain ⟨b, rfl⟩ := Int.nat_of o0
  have hlt : b < n := by have h9 : sz = (n : Int) := hn; omega
  obtain rfl := vokR h1
  obtain ⟨fs, f1, f2, f3⟩ := (h2 b hlt).obj o2 hc
  have he : (wsl n ad E)[b]? = some (ad b, .inr (c, fs)) := by rw [wsl_get hlt, f1]
  have hfs : fs[k]? = some (vp_V fs k) := by
    unfold vp_V
    rw [List.getD_eq_getElem?_getD, List.getElem?_eq_getElem (by omega)]
    rfl
  have hf := (f3 k hk).vok
  rw [hv] at hf
  obtain ⟨g1, -, -⟩ := awCl_ok c q hc
  rcases hq with hq | ⟨h, hq⟩
  · refine va_get hx hb hts g1 hown hV.2.1 hP b he (by rw [hc]) k hk (hts _ hq) (fun _ h => h) hfs hd ?_
    exact kk p l e R s m args below meth c0 D dA sA A ad0 sz0 mc ms C ad H locs cells slots ls (vp_V fs k :: rs) hE hH hL ⟨_, _, rfl, hf, hst⟩ hS hk1 hk2
  · refine va_getN hx hb hts g1 hown hV.2.1 hP b he (by rw [hc]) k hk (va_Nw.use rfl (hV.2.2.1 _ hq rfl)) (fun _ h => h) hfs hd ?_
    exact kk p l e R s m args below meth c0 D dA sA A ad0 sz0 mc ms C ad H locs cells slots ls (vp_V fs k :: rs) hE hH hL ⟨_, _, rfl, hf, hst⟩ hS hk1 hk2
theorem vkT_fit {sA : Nat → Nat} {ad : Int → Nat} {sz : Int} {t : FieldType} {x : Int} {v : Value} (h : vkT sA ad sz t x v) (ht : t = .int ∨ t = .boolean ∨ t = .long ∨ (∃ C, t = .object C) ∨ ∃ u, t = .array u) : narrow t v = v ∧ fits t v = true := by
  rcases ht with rfl | rfl | rfl | ⟨C, rfl⟩ | ⟨u, rfl⟩
  · obtain ⟨r, rfl, -⟩ := h; exact ⟨rfl, rfl⟩
  · obtain ⟨r, rfl, h2, h3⟩ := h
    have : r = 0 ∨ r = 1 := by
      rcases h3 with h3 | h3
      · exact Or.inl (Int32.toInt_inj.mp (by rw [← h2, h3]; rfl))
      · exact Or.inr (Int32.toInt_inj.mp (by rw [← h2, h3]; rfl))
    rcases this with rfl | rfl <;> exact ⟨rfl, rfl⟩
  · obtain ⟨r, rfl, -⟩ := h; exact ⟨rfl, rfl⟩
  · obtain rfl | ⟨q, rfl⟩ := rfk_cases h <;> exact ⟨rfl, rfl⟩
  · obtain rfl | ⟨q, rfl⟩ := rfk_cases h <;> exact ⟨rfl, rfl⟩
theorem vp_V_set {fs : List Value} {k i : Nat} {v : Value} (hk : k < fs.length) : vp_V (fs.set k v) i = if i = k then v else vp_V fs i := by
  unfold vp_V
  rw [List.getD_eq_getElem?_getD, List.getD_eq_getElem?_getD]
  by_cases h : i = k
  · subst h
    rw [List.getElem?_set_self hk, if_pos rfl]
    rfl
  · rw [List.getElem?_set_ne (Ne.symm h), if_neg h]
theorem aw_put {Z : aZ} {M : aMD} {d kc ks pc : Nat} {L : List (Option aV)} {st : List aV} {sz : Int} {im : Int → aIm} {ct : Int → Int → Int} {a x : Int} {c k i : Nat} {q : vw_C} {w : aV} (hd : decode M.2.1 pc = .ok (.putfield i, 3)) (ho : aob sz im a c) (hc : awCl[c]? = some q) (hk : k < q.2.2) (hq : flk M i (q.2.1 k).1 (q.2.1 k).2.1 (q.2.1 k).2.2.1) (hfin : (q.2.1 k).2.2.2 = false) 
    (ht : awTy c k = .int ∨ awTy c k = .boolean ∨ awTy c k = .long ∨ (∃ C, awTy c k = .object C) ∨ ∃ u, awTy c k = .array u) (hw : ∀ (sA : Nat → Nat) (ad : Int → Nat) (v : Value), vok sA ad sz w v → vkT sA ad sz (awTy c k) x v)
    (kk : AW Z M d kc ks (pc + 3) L st (sz, im, (aup ct a k x))) : AW Z M d kc ks pc L (w :: vR a :: st) (sz, im, ct) := by
  intro p l e R s m args below meth c0 D dA sA A ad0 sz0 mc ms C ad H locs cells slots ls rst hE hH hL hst hS hk1 hk2
  obtain ⟨hx, hb, hml, hown, hts, hret, hlk, hnm, htab, hR, hV, hA⟩ := id C
  obtain ⟨v, _, rfl, hvv, _, rs, rfl, h1, hst⟩ := hst
  obtain ⟨n, E, hn, h2, hP, hD⟩ := id hH
  try dsimp only at h2
  obtain ⟨o0, o1, o2⟩ := ho
  obtain ⟨b, rfl⟩ := Int.nat_of o0
  have hlt : b < n := by have h9 : sz = (n : Int) := hn; omega
  obtain rfl := vokR h1
  obtain ⟨fs, f1, f2, f3⟩ := (h2 b hlt).obj o2 hc
  have he : (wsl n ad E)[b]? = some (ad b, .inr (c, fs)) := by rw [wsl_get hlt, f1]
  have hvk := hw sA ad v hvv
  have hfit := vkT_fit hvk ht
  obtain ⟨g1, g2, g3⟩ := awCl_ok c q hc
  have hrel : relE dA sA ad sz (im b) ((aup ct b k x) b) (.inr (c, fs.set k v)) := by
    refine Or.inl ⟨q, fs.set k v, by rw [o2]; exact hc, by rw [o2], by simpa using f2, fun i hi => ?_⟩
    rw [vp_V_set (by omega), o2]
    by_cases hik : i = k
    · subst hik
      rw [if_pos rfl, if_neg (by rw [hfin]; decide)]
      simp only [aup, true_and, if_true]
      exact hvk
    · rw [if_neg hik]
      have h3 := f3 i hi
      by_cases hfi : (q.2.1 i).2.2.2 = true
      · rw [if_pos hfi] at h3 ⊢
        exact h3
      · rw [if_neg hfi] at h3 ⊢
        simp only [aup, true_and]
        rw [if_neg (by omega)]
        exact h3
  rcases hq with hq | ⟨h, hq⟩
  · refine va_put hx hb hts g1 (awTy c) g2 g3 hown hV.2.1 hP hD hS b he (by rw [hc]) k hk (hts _ hq) (fun _ h => h) hfin (g2 k hk) hfit.1 hfit.2 (by omega) hd fun H1 locs1 hP1 hD1 hS1 => ?_
    exact kk p l e R s m args below meth c0 D dA sA A ad0 sz0 mc ms C ad H1 locs1 cells slots ls rs hE (HR.up hn h2 hlt hP1 hD1 hrel (fun b9 _ hb9 => ⟨rfl, by funext j; unfold aup; rw [if_neg (by omega)]⟩)) hL hst hS1 hk1 hk2
  · refine va_putN hx hb hts g1 (awTy c) g2 g3 hown hV.2.1 hP hD hS b he (by rw [hc]) k hk (va_Nw.use rfl (hV.2.2.1 _ hq rfl)) (fun _ h => h) hfin (g2 k hk) hfit.1 hfit.2 (by omega) hd fun H1 locs1 hP1 hD1 hS1 => ?_
    exact kk p l e R s m args below meth c0 D dA sA A ad0 sz0 mc ms C ad H1 locs1 cells slots ls rs hE (HR.up hn h2 hlt hP1 hD1 hrel (fun b9 _ hb9 => ⟨rfl, by funext j; unfold aup; rw [if_neg (by omega)]⟩)) hL hst hS1 hk1 hk2
theorem aw_putF {Z : aZ} {M : aMD} {d kc ks pc : Nat} {L : List (Option aV)} {st : List aV} {sz : Int} {im : Int → aIm} {ct : Int → Int → Int} {a x : Int} {c k i : Nat} {q : vw_C} {w : aV} (hd : decode M.2.1 pc = .ok (.putfield i, 3)) (ho : aob sz im a c) (hc : awCl[c]? = some q) (hk : k < q.2.2) (hq : Cond.fieldLink M.1.cls i (q.2.1 k).1 (q.2.1 k).2.1 (q.2.1 k).2.2.1 ∈ lw_all) (hfin : (q.2.1 k).2.2.2 = true) (hinit : M.1.name = "<init>") (hdecl : (q.2.1 k).1 = M.1.cls) 
    (ht : awTy c k = .int ∨ awTy c k = .boolean ∨ awTy c k = .long ∨ (∃ C, awTy c k = .object C) ∨ ∃ u, awTy c k = .array u) (hw : ∀ (sA : Nat → Nat) (ad : Int → Nat) (v : Value), vok sA ad sz w v → vkT sA ad sz (awTy c k) x v)
    (kk : AW Z M d kc ks (pc + 3) L st (sz, (imf im a k x), ct)) : AW Z M d kc ks pc L (w :: vR a :: st) (sz, im, ct) := by
  intro p l e R s m args below meth c0 D dA sA A ad0 sz0 mc ms C ad H locs cells slots ls rst hE hH hL hst hS hk1 hk2
  obtain ⟨hx, hb, hml, hown, hts, hret, hlk, hnm, htab, hR, hV, hA⟩ := id C
  obtain ⟨v, _, rfl, hvv, _, rs, rfl, h1, hst⟩ := hst
  obtain ⟨n, E, hn, h2, hP, hD⟩ := id hH
  try dsimp only at h2
  obtain ⟨o0, o1, o2⟩ := ho
  obtain ⟨b, rfl⟩ := Int.nat_of o0
  have hlt : b < n := by have h9 : sz = (n : Int) := hn; omega
  obtain rfl := vokR h1
  obtain ⟨fs, f1, f2, f3⟩ := (h2 b hlt).obj o2 hc
  have he : (wsl n ad E)[b]? = some (ad b, .inr (c, fs)) := by rw [wsl_get hlt, f1]
  have hvk := hw sA ad v hvv
  have hfit := vkT_fit hvk ht
  obtain ⟨g1, g2, g3⟩ := awCl_ok c q hc
  have hrel : relE dA sA ad sz ((imf im b k x) b) (ct b) (.inr (c, fs.set k v)) := by
    refine Or.inl ⟨q, fs.set k v, ?_, ?_, by simpa using f2, fun i hi => ?_⟩
    · simp only [imf, if_true]; rw [o2]; exact hc
    · simp only [imf, if_true]; rw [o2]
    · simp only [imf, if_true]
      rw [vp_V_set (by omega), o2]
      by_cases hik : i = k
      · subst hik
        rw [if_pos rfl, if_pos hfin, if_pos rfl]
        exact hvk
      · rw [if_neg hik]
        have h3 := f3 i hi
        by_cases hfi : (q.2.1 i).2.2.2 = true
        · rw [if_pos hfi] at h3 ⊢
          rw [if_neg (by omega)]
          exact h3
        · rw [if_neg hfi] at h3 ⊢
          exact h3
  refine va_putF hx hb hts g1 (awTy c) g2 g3 hown hV.2.1 hP hD hS b he (by rw [hc]) k hk (hts _ hq) (fun _ h => h) hfin (hnm.trans hinit) hdecl (g2 k hk) hfit.1 hfit.2 (by omega) hd fun H1 locs1 hP1 hD1 hS1 => ?_
  exact kk p l e R s m args below meth c0 D dA sA A ad0 sz0 mc ms C ad H1 locs1 cells slots ls rs hE (HR.up hn h2 hlt hP1 hD1 hrel (fun b9 _ hb9 => ⟨by unfold imf; rw [if_neg (by omega)], rfl⟩)) hL hst hS1 hk1 hk2
theorem aw_alen {Z : aZ} {M : aMD} {d kc ks pc : Nat} {L : List (Option aV)} {st : List aV} {sz : Int} {im : Int → aIm} {ct : Int → Int → Int} {a N : Int} {t : Nat} (hd : decode M.2.1 pc = .ok (.arraylength, 1)) (ha : aar sz im a t N) (kk : AW Z M d kc ks (pc + 1) L (vI N :: st) (sz, im, ct)) : AW Z M d kc ks pc L (vR a :: st) (sz, im, ct) := by
  intro p l e R s m args below meth c0 D dA sA A ad0 sz0 mc ms C ad H locs cells slots ls rst hE hH hL hst hS hk1 hk2
  obtain ⟨hx, hb, hml, hown, hts, hret, hlk, hnm, htab, hR, hV, hA⟩ := id C
  obtain ⟨_, rs, rfl, h1, hst⟩ := hst
  obtain ⟨n, E, hn, h2, hP, hD⟩ := id hH
  try dsimp only at h2
  obtain ⟨o0, o1, o2, o3⟩ := ha
  obtain ⟨b, rfl⟩ := Int.nat_of o0
  have hlt : b < n := by have h9 : sz = (n : Int) := hn; omega
  obtain rfl := vokR h1
  obtain ⟨t9, hsm, x, e1, e2⟩ := (h2 b hlt).ar o2
  refine va_alen (v := Int32.ofNat (im b).2.1) hx hb hV.2.1 hP b t (by rw [wsl_get hlt, e1]) (awTys_get t9) (by rw [e2]) hd ?_
  exact kk p l e R s m args below meth c0 D dA sA A ad0 sz0 mc ms C ad H locs cells slots ls (.int _ :: rs) hE hH hL ⟨_, _, rfl, ⟨_, rfl, by rw [← o3]; exact (nI_toInt (by omega)).symm⟩, hst⟩ hS hk1 hk2
