set_option maxRecDepth 100000
theorem vpin_of {r : Int32} {N : Nat} (h0 : 0 ≤ r.toInt) (h1 : r.toInt < N) : vp_in r N := vp_in_iff.mpr ⟨h0, h1⟩
theorem clamp_eq (r : Int32) (h : 0 ≤ r.toInt) : ((r.toNatClampNeg : Nat) : Int) = r.toInt := by
  show ((r.toInt.toNat : Nat) : Int) = _
  omega
theorem aw_iaload {Z : aZ} {M : aMD} {d kc ks pc : Nat} {L : List (Option aV)} {st : List aV} {sz : Int} {im : Int → aIm} {ct : Int → Int → Int} {a j N : Int} (hd : decode M.2.1 pc = .ok (.iaload, 1)) (ha : aar sz im a 2 N) (h0 : 0 ≤ j) (hj : j < N) (kk : AW Z M d kc ks (pc + 1) L (vI (ct a j) :: st) (sz, im, ct)) : AW Z M d kc ks pc L (vI j :: vR a :: st) (sz, im, ct) := by
  intro p l e R s m args below meth c0 D dA sA A ad0 sz0 mc ms C ad H locs cells slots ls rst hE hH hL hst hS hk1 hk2
  obtain ⟨hx, hb, hml, hown, hts, hret, hlk, hnm, htab, hR, hV, hA⟩ := id C
  obtain ⟨_, _, rfl, ⟨ri, rfl, hri⟩, _, rs, rfl, h1, hst⟩ := hst
  subst hri
  obtain ⟨n, E, hn, h2, hP, hD⟩ := id hH
  try dsimp only at h2
  obtain ⟨o0, o1, o2, o3⟩ := ha
  obtain ⟨b, rfl⟩ := Int.nat_of o0
  have hlt : b < n := by have h9 : sz = (n : Int) := hn; omega
  obtain rfl := vokR h1
  obtain ⟨hsm, g, e1, e2⟩ := (h2 b hlt).sm o2 (by decide)
  have hc9 := clamp_eq ri h0
  refine va_iald hx hb hV.2.1 hP b 2 (by rw [wsl_get hlt, e1]) (awTys_get (by decide)) (vpin_of h0 (by omega)) hd ?_
  exact kk p l e R s m args below meth c0 D dA sA A ad0 sz0 mc ms C ad H locs cells slots ls (.int _ :: rs) hE hH hL ⟨_, _, rfl, ⟨_, rfl, by rw [← hc9]; exact (e2 _ (by omega)).1⟩, hst⟩ hS hk1 hk2
theorem aw_baload {Z : aZ} {M : aMD} {d kc ks pc : Nat} {L : List (Option aV)} {st : List aV} {sz : Int} {im : Int → aIm} {ct : Int → Int → Int} {a j N : Int} (hd : decode M.2.1 pc = .ok (.baload, 1)) (ha : aar sz im a 0 N) (h0 : 0 ≤ j) (hj : j < N) (kk : AW Z M d kc ks (pc + 1) L (vI (ct a j) :: st) (sz, im, ct)) : AW Z M d kc ks pc L (vI j :: vR a :: st) (sz, im, ct) := by
  intro p l e R s m args below meth c0 D dA sA A ad0 sz0 mc ms C ad H locs cells slots ls rst hE hH hL hst hS hk1 hk2
  obtain ⟨hx, hb, hml, hown, hts, hret, hlk, hnm, htab, hR, hV, hA⟩ := id C
  obtain ⟨_, _, rfl, ⟨ri, rfl, hri⟩, _, rs, rfl, h1, hst⟩ := hst
  subst hri
  obtain ⟨n, E, hn, h2, hP, hD⟩ := id hH
  try dsimp only at h2
  obtain ⟨o0, o1, o2, o3⟩ := ha
  obtain ⟨b, rfl⟩ := Int.nat_of o0
  have hlt : b < n := by have h9 : sz = (n : Int) := hn; omega
  obtain rfl := vokR h1
  obtain ⟨hsm, g, e1, e2⟩ := (h2 b hlt).sm o2 (by decide)
  have hc9 := clamp_eq ri h0
  refine va_bald hx hb hV.2.1 hP b 0 (by rw [wsl_get hlt, e1]) (awTys_get (by decide)) (vpin_of h0 (by omega)) hd ?_
  exact kk p l e R s m args below meth c0 D dA sA A ad0 sz0 mc ms C ad H locs cells slots ls (.int _ :: rs) hE hH hL ⟨_, _, rfl, ⟨_, rfl, by rw [← hc9]; exact (e2 _ (by omega)).1⟩, hst⟩ hS hk1 hk2
theorem aw_saload {Z : aZ} {M : aMD} {d kc ks pc : Nat} {L : List (Option aV)} {st : List aV} {sz : Int} {im : Int → aIm} {ct : Int → Int → Int} {a j N : Int} (hd : decode M.2.1 pc = .ok (.saload, 1)) (ha : aar sz im a 1 N) (h0 : 0 ≤ j) (hj : j < N) (kk : AW Z M d kc ks (pc + 1) L (vI (ct a j) :: st) (sz, im, ct)) : AW Z M d kc ks pc L (vI j :: vR a :: st) (sz, im, ct) := by
  intro p l e R s m args below meth c0 D dA sA A ad0 sz0 mc ms C ad H locs cells slots ls rst hE hH hL hst hS hk1 hk2
  obtain ⟨hx, hb, hml, hown, hts, hret, hlk, hnm, htab, hR, hV, hA⟩ := id C
  obtain ⟨_, _, rfl, ⟨ri, rfl, hri⟩, _, rs, rfl, h1, hst⟩ := hst
  subst hri
  obtain ⟨n, E, hn, h2, hP, hD⟩ := id hH
  try dsimp only at h2
  obtain ⟨o0, o1, o2, o3⟩ := ha
  obtain ⟨b, rfl⟩ := Int.nat_of o0
  have hlt : b < n := by have h9 : sz = (n : Int) := hn; omega
  obtain rfl := vokR h1
  obtain ⟨hsm, g, e1, e2⟩ := (h2 b hlt).sm o2 (by decide)
  have hc9 := clamp_eq ri h0
  refine va_sald hx hb hV.2.1 hP b 1 (by rw [wsl_get hlt, e1]) (awTys_get (by decide)) (vpin_of h0 (by omega)) hd ?_
  exact kk p l e R s m args below meth c0 D dA sA A ad0 sz0 mc ms C ad H locs cells slots ls (.int _ :: rs) hE hH hL ⟨_, _, rfl, ⟨_, rfl, by rw [← hc9]; exact (e2 _ (by omega)).1⟩, hst⟩ hS hk1 hk2
theorem aw_laload {Z : aZ} {M : aMD} {d kc ks pc : Nat} {L : List (Option aV)} {st : List aV} {sz : Int} {im : Int → aIm} {ct : Int → Int → Int} {a j N : Int} (hd : decode M.2.1 pc = .ok (.laload, 1)) (ha : aar sz im a 3 N) (h0 : 0 ≤ j) (hj : j < N) (kk : AW Z M d kc ks (pc + 1) L (vL (ct a j) :: st) (sz, im, ct)) : AW Z M d kc ks pc L (vI j :: vR a :: st) (sz, im, ct) := by
  intro p l e R s m args below meth c0 D dA sA A ad0 sz0 mc ms C ad H locs cells slots ls rst hE hH hL hst hS hk1 hk2
  obtain ⟨hx, hb, hml, hown, hts, hret, hlk, hnm, htab, hR, hV, hA⟩ := id C
  obtain ⟨_, _, rfl, ⟨ri, rfl, hri⟩, _, rs, rfl, h1, hst⟩ := hst
  subst hri
  obtain ⟨n, E, hn, h2, hP, hD⟩ := id hH
  try dsimp only at h2
  obtain ⟨o0, o1, o2, o3⟩ := ha
  obtain ⟨b, rfl⟩ := Int.nat_of o0
  have hlt : b < n := by have h9 : sz = (n : Int) := hn; omega
  obtain rfl := vokR h1
  obtain ⟨hsm, g, e1, e2⟩ := (h2 b hlt).lg o2
  have hc9 := clamp_eq ri h0
  refine va_lald hx hb hV.2.1 hP b 3 (by rw [wsl_get hlt, e1]) (awTys_get (by decide)) (vpin_of h0 (by omega)) hd ?_
  exact kk p l e R s m args below meth c0 D dA sA A ad0 sz0 mc ms C ad H locs cells slots ls (.long _ :: rs) hE hH hL ⟨_, _, rfl, ⟨_, rfl, by rw [← hc9]; exact e2 _ (by omega)⟩, hst⟩ hS hk1 hk2
theorem aw_aaload {Z : aZ} {M : aMD} {d kc ks pc : Nat} {L : List (Option aV)} {st : List aV} {sz : Int} {im : Int → aIm} {ct : Int → Int → Int} {a j N : Int} {t : Nat} (hd : decode M.2.1 pc = .ok (.aaload, 1)) (ha : aar sz im a t N) (ht : 4 ≤ t) (h0 : 0 ≤ j) (hj : j < N) (kk : AW Z M d kc ks (pc + 1) L (vR (ct a j) :: st) (sz, im, ct)) : AW Z M d kc ks pc L (vI j :: vR a :: st) (sz, im, ct) := by
  intro p l e R s m args below meth c0 D dA sA A ad0 sz0 mc ms C ad H locs cells slots ls rst hE hH hL hst hS hk1 hk2
  obtain ⟨hx, hb, hml, hown, hts, hret, hlk, hnm, htab, hR, hV, hA⟩ := id C
  obtain ⟨_, _, rfl, ⟨ri, rfl, hri⟩, _, rs, rfl, h1, hst⟩ := hst
  subst hri
  obtain ⟨n, E, hn, h2, hP, hD⟩ := id hH
  try dsimp only at h2
  obtain ⟨o0, o1, o2, o3⟩ := ha
  obtain ⟨b, rfl⟩ := Int.nat_of o0
  have hlt : b < n := by have h9 : sz = (n : Int) := hn; omega
  obtain rfl := vokR h1
  obtain ⟨t9, hsm, g, e1, e2⟩ := (h2 b hlt).rf o2 ht
  have hc9 := clamp_eq ri h0
  have hin : vp_in ri (im b).2.1 := vpin_of h0 (by omega)
  have hltj : ri.toNatClampNeg < (im b).2.1 := by omega
  have hat := hP b _ (wsl_get hlt)
  rw [e1] at hat
  have href : (eT t).isReference = true := by
    match t, ht, t9 with
    | 4, _, _ => rfl
    | 5, _, _ => rfl
    | 6, _, _ => rfl
    | 7, _, _ => rfl
    | 8, _, _ => rfl
  refine W.aald (v := va_rf (g ri.toNatClampNeg)) (ty := eT t) hx hb hat ((hV.2.1.2 t _ (awTys_get t9)).1 _ (fun j => va_rf (g j))) href (fun q => by cases q) (by show ¬ (ri < 0 ∨ (arrV _ _ _).slots.size ≤ _); rw [arrV_size]; exact hin) (by show (arrV _ _ _).slots[_]? = _; rw [arrV_read _ _ hltj]) rfl rfl hd ?_
  exact kk p l e R s m args below meth c0 D dA sA A ad0 sz0 mc ms C ad H locs cells slots ls (va_rf (g ri.toNatClampNeg) :: rs) hE hH hL ⟨_, _, rfl, by rw [← hc9]; exact (e2 _ hltj).rfk, hst⟩ hS hk1 hk2
theorem aw_iastore {Z : aZ} {M : aMD} {d kc ks pc : Nat} {L : List (Option aV)} {st : List aV} {sz : Int} {im : Int → aIm} {ct : Int → Int → Int} {a j x N : Int} (hd : decode M.2.1 pc = .ok (.iastore, 1)) (ha : aar sz im a 2 N) (h0 : 0 ≤ j) (hj : j < N) (kk : AW Z M d kc ks (pc + 1) L st (sz, im, aup ct a j (x))) : AW Z M d kc ks pc L (vI x :: vI j :: vR a :: st) (sz, im, ct) := by
  intro p l e R s m args below meth c0 D dA sA A ad0 sz0 mc ms C ad H locs cells slots ls rst hE hH hL hst hS hk1 hk2
  obtain ⟨hx, hb, hml, hown, hts, hret, hlk, hnm, htab, hR, hV, hA⟩ := id C
  obtain ⟨_, _, rfl, ⟨rx, rfl, hrx⟩, _, _, rfl, ⟨ri, rfl, hri⟩, _, rs, rfl, h1, hst⟩ := hst
  subst hri
  subst hrx
  obtain ⟨n, E, hn, h2, hP, hD⟩ := id hH
  try dsimp only at h2
  obtain ⟨o0, o1, o2, o3⟩ := ha
  obtain ⟨b, rfl⟩ := Int.nat_of o0
  have hlt : b < n := by have h9 : sz = (n : Int) := hn; omega
  obtain rfl := vokR h1
  obtain ⟨hsm, g, e1, e2⟩ := (h2 b hlt).sm o2 (by decide)
  have hc9 := clamp_eq ri h0
  refine va_iast hx hb hV.2.1 hP hD hS b 2 (by rw [wsl_get hlt, e1]) (awTys_get (by decide)) (vpin_of h0 (by omega)) hd fun H1 locs1 hP1 hD1 hS1 => ?_
  have hrel : relE dA sA ad sz (im b) ((aup ct b ri.toInt (rx.toInt)) b) (.inl (dA 2, (im b).2.1, .inl (upd g ri.toNatClampNeg rx))) := by
    refine Or.inr (Or.inl ⟨2, o2, by decide, hsm, _, rfl, fun i hi => ?_⟩)
    simp only [aup, true_and, upd]
    by_cases hij : i = ri.toNatClampNeg
    · rw [if_pos (by omega), if_pos hij]
      exact ⟨Eq.symm (rfl : rx.toInt = rx.toInt), rfl⟩
    · rw [if_neg (by omega), if_neg hij]
      exact e2 i hi
  exact kk p l e R s m args below meth c0 D dA sA A ad0 sz0 mc ms C ad H1 locs1 cells slots ls rs hE (HR.up hn h2 hlt hP1 hD1 hrel (fun b9 _ hb9 => ⟨rfl, by funext j9; unfold aup; rw [if_neg (by omega)]⟩)) hL hst hS1 hk1 hk2
theorem aw_bastore {Z : aZ} {M : aMD} {d kc ks pc : Nat} {L : List (Option aV)} {st : List aV} {sz : Int} {im : Int → aIm} {ct : Int → Int → Int} {a j x N : Int} (hd : decode M.2.1 pc = .ok (.bastore, 1)) (ha : aar sz im a 0 N) (h0 : 0 ≤ j) (hj : j < N) (kk : AW Z M d kc ks (pc + 1) L st (sz, im, aup ct a j (w8 x))) : AW Z M d kc ks pc L (vI x :: vI j :: vR a :: st) (sz, im, ct) := by
  intro p l e R s m args below meth c0 D dA sA A ad0 sz0 mc ms C ad H locs cells slots ls rst hE hH hL hst hS hk1 hk2
  obtain ⟨hx, hb, hml, hown, hts, hret, hlk, hnm, htab, hR, hV, hA⟩ := id C
  obtain ⟨_, _, rfl, ⟨rx, rfl, hrx⟩, _, _, rfl, ⟨ri, rfl, hri⟩, _, rs, rfl, h1, hst⟩ := hst
  subst hri
  subst hrx
  obtain ⟨n, E, hn, h2, hP, hD⟩ := id hH
  try dsimp only at h2
  obtain ⟨o0, o1, o2, o3⟩ := ha
  obtain ⟨b, rfl⟩ := Int.nat_of o0
  have hlt : b < n := by have h9 : sz = (n : Int) := hn; omega
  obtain rfl := vokR h1
  obtain ⟨hsm, g, e1, e2⟩ := (h2 b hlt).sm o2 (by decide)
  have hc9 := clamp_eq ri h0
  refine va_bast hx hb hV.2.1 hP hD hS b 0 (by rw [wsl_get hlt, e1]) (awTys_get (by decide)) (vpin_of h0 (by omega)) hd fun H1 locs1 hP1 hD1 hS1 => ?_
  have hrel : relE dA sA ad sz (im b) ((aup ct b ri.toInt (w8 rx.toInt)) b) (.inl (dA 0, (im b).2.1, .inl (upd g ri.toNatClampNeg (vp_nar .byte rx)))) := by
    refine Or.inr (Or.inl ⟨0, o2, by decide, hsm, _, rfl, fun i hi => ?_⟩)
    simp only [aup, true_and, upd]
    by_cases hij : i = ri.toNatClampNeg
    · rw [if_pos (by omega), if_pos hij]
      exact ⟨Eq.symm (by rw [vp_nar_byte, Int8.toInt_toInt32, Int32.toInt_toInt8]; rfl), pk_fb rx⟩
    · rw [if_neg (by omega), if_neg hij]
      exact e2 i hi
  exact kk p l e R s m args below meth c0 D dA sA A ad0 sz0 mc ms C ad H1 locs1 cells slots ls rs hE (HR.up hn h2 hlt hP1 hD1 hrel (fun b9 _ hb9 => ⟨rfl, by funext j9; unfold aup; rw [if_neg (by omega)]⟩)) hL hst hS1 hk1 hk2
theorem aw_sastore {Z : aZ} {M : aMD} {d kc ks pc : Nat} {L : List (Option aV)} {st : List aV} {sz : Int} {im : Int → aIm} {ct : Int → Int → Int} {a j x N : Int} (hd : decode M.2.1 pc = .ok (.sastore, 1)) (ha : aar sz im a 1 N) (h0 : 0 ≤ j) (hj : j < N) (kk : AW Z M d kc ks (pc + 1) L st (sz, im, aup ct a j (w16 x))) : AW Z M d kc ks pc L (vI x :: vI j :: vR a :: st) (sz, im, ct) := by
  intro p l e R s m args below meth c0 D dA sA A ad0 sz0 mc ms C ad H locs cells slots ls rst hE hH hL hst hS hk1 hk2
  obtain ⟨hx, hb, hml, hown, hts, hret, hlk, hnm, htab, hR, hV, hA⟩ := id C
  obtain ⟨_, _, rfl, ⟨rx, rfl, hrx⟩, _, _, rfl, ⟨ri, rfl, hri⟩, _, rs, rfl, h1, hst⟩ := hst
  subst hri
  subst hrx
  obtain ⟨n, E, hn, h2, hP, hD⟩ := id hH
  try dsimp only at h2
  obtain ⟨o0, o1, o2, o3⟩ := ha
  obtain ⟨b, rfl⟩ := Int.nat_of o0
  have hlt : b < n := by have h9 : sz = (n : Int) := hn; omega
  obtain rfl := vokR h1
  obtain ⟨hsm, g, e1, e2⟩ := (h2 b hlt).sm o2 (by decide)
  have hc9 := clamp_eq ri h0
  refine va_sast hx hb hV.2.1 hP hD hS b 1 (by rw [wsl_get hlt, e1]) (awTys_get (by decide)) (vpin_of h0 (by omega)) hd fun H1 locs1 hP1 hD1 hS1 => ?_
  have hrel : relE dA sA ad sz (im b) ((aup ct b ri.toInt (w16 rx.toInt)) b) (.inl (dA 1, (im b).2.1, .inl (upd g ri.toNatClampNeg (vp_nar .short rx)))) := by
    refine Or.inr (Or.inl ⟨1, o2, by decide, hsm, _, rfl, fun i hi => ?_⟩)
    simp only [aup, true_and, upd]
    by_cases hij : i = ri.toNatClampNeg
    · rw [if_pos (by omega), if_pos hij]
      exact ⟨Eq.symm (by rw [vp_nar_short, Int16.toInt_toInt32, Int32.toInt_toInt16]; rfl), pk_fs rx⟩
    · rw [if_neg (by omega), if_neg hij]
      exact e2 i hi
  exact kk p l e R s m args below meth c0 D dA sA A ad0 sz0 mc ms C ad H1 locs1 cells slots ls rs hE (HR.up hn h2 hlt hP1 hD1 hrel (fun b9 _ hb9 => ⟨rfl, by funext j9; unfold aup; rw [if_neg (by omega)]⟩)) hL hst hS1 hk1 hk2
theorem aw_lastore {Z : aZ} {M : aMD} {d kc ks pc : Nat} {L : List (Option aV)} {st : List aV} {sz : Int} {im : Int → aIm} {ct : Int → Int → Int} {a j x N : Int} (hd : decode M.2.1 pc = .ok (.lastore, 1)) (ha : aar sz im a 3 N) (h0 : 0 ≤ j) (hj : j < N) (kk : AW Z M d kc ks (pc + 1) L st (sz, im, aup ct a j x)) : AW Z M d kc ks pc L (vL x :: vI j :: vR a :: st) (sz, im, ct) := by
  intro p l e R s m args below meth c0 D dA sA A ad0 sz0 mc ms C ad H locs cells slots ls rst hE hH hL hst hS hk1 hk2
  obtain ⟨hx, hb, hml, hown, hts, hret, hlk, hnm, htab, hR, hV, hA⟩ := id C
  obtain ⟨_, _, rfl, ⟨rx, rfl, hrx⟩, _, _, rfl, ⟨ri, rfl, hri⟩, _, rs, rfl, h1, hst⟩ := hst
  subst hri
  subst hrx
  obtain ⟨n, E, hn, h2, hP, hD⟩ := id hH
  try dsimp only at h2
  obtain ⟨o0, o1, o2, o3⟩ := ha
  obtain ⟨b, rfl⟩ := Int.nat_of o0
  have hlt : b < n := by have h9 : sz = (n : Int) := hn; omega
  obtain rfl := vokR h1
  obtain ⟨hsm, g, e1, e2⟩ := (h2 b hlt).lg o2
  have hc9 := clamp_eq ri h0
  refine va_last hx hb hV.2.1 hP hD hS b 3 (by rw [wsl_get hlt, e1]) (awTys_get (by decide)) (vpin_of h0 (by omega)) hd fun H1 locs1 hP1 hD1 hS1 => ?_
  have hrel : relE dA sA ad sz (im b) ((aup ct b ri.toInt rx.toInt) b) (.inl (dA 3, (im b).2.1, .inr (.inl (vp_updL g ri.toNatClampNeg rx)))) := by
    refine Or.inr (Or.inr (Or.inl ⟨o2, hsm, _, rfl, fun i hi => ?_⟩))
    simp only [aup, true_and, vp_updL]
    by_cases hij : i = ri.toNatClampNeg
    · rw [if_pos (by omega), if_pos hij]
    · rw [if_neg (by omega), if_neg hij]
      exact e2 i hi
  exact kk p l e R s m args below meth c0 D dA sA A ad0 sz0 mc ms C ad H1 locs1 cells slots ls rs hE (HR.up hn h2 hlt hP1 hD1 hrel (fun b9 _ hb9 => ⟨rfl, by funext j9; unfold aup; rw [if_neg (by omega)]⟩)) hL hst hS1 hk1 hk2
