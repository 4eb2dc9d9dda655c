set_option maxRecDepth 100000
/-! AW, part 6: references in arrays, casts, copies, inherited and abstract calls, statics (printed by aw6.py) -/
theorem arr_kind {D : va_G} {dA : Nat → ClassId} {s : State} (hK : va_K D awCl (awTys dA) s) (hO : ∀ t ∈ awAO, AO t s) {t : Nat} (h4 : 4 ≤ t) (h9 : t < 9) : ∃ (kA : Class) (comp : ClassId), s.vm.classes[dA t]? = some kA ∧ kA.kind = .array comp (eT t) ∧ (t = 7 → comp = dA 1) ∧ ∀ C, eT t = .object C → s.vm.findClass C = some comp := by
  have hob : ∀ (t : Nat) (C : String), t < 9 → eT t = .object C → ∃ (kA : Class) (comp : ClassId), s.vm.classes[dA t]? = some kA ∧ kA.kind = .array comp (eT t) ∧ s.vm.findClass C = some comp := by
    intro t C ht e
    have h1 := (hK.2 t _ (awTys_get ht)).2
    rw [e] at h1 ⊢
    obtain ⟨kA, comp, q1, q2, q3, -⟩ := h1
    exact ⟨kA, comp, q1, q2, q3⟩
  by_cases h7 : t = 7
  · subst h7
    obtain ⟨comp, c, k, h1, h2, h3, h5, h6⟩ := arrayOverA_spec (t := .short) (hO (.array .short) (by decide))
    have g1 : s.vm.findClass ("[" ++ (FieldType.array .short).toString) = some (dA 7) := (hK.2 7 _ (awTys_get (by decide))).2
    have e1 : c = dA 7 := Option.some.inj (h6.symm.trans g1)
    subst e1
    have g2 : s.vm.findClass ("[" ++ (FieldType.short).toString) = some (dA 1) := (hK.2 1 _ (awTys_get (by decide))).2
    have g3 : s.vm.findClass (FieldType.array .short).toString = some comp := h1
    have g4 : (FieldType.array .short).toString = "[" ++ (FieldType.short).toString := by first | rfl | decide +kernel
    rw [g4] at g3
    exact ⟨k, comp, h3, h5, fun _ => Option.some.inj (g3.symm.trans g2), fun C e => by cases e⟩
  · have hC : ∃ C, eT t = .object C := by
      match t, h4, h9, h7 with
      | 4, _, _, _ => exact ⟨_, rfl⟩
      | 5, _, _, _ => exact ⟨_, rfl⟩
      | 6, _, _, _ => exact ⟨_, rfl⟩
      | 8, _, _, _ => exact ⟨_, rfl⟩
    obtain ⟨C, e⟩ := hC
    obtain ⟨kA, comp, q1, q2, q3⟩ := hob t C h9 e
    exact ⟨kA, comp, q1, q2, fun z => absurd z h7, fun C' e' => by rw [e] at e'; cases e'; exact q3⟩
/-- v may be stored in an array of number t -/
def mayS (sz : Int) (im : Int → aIm) (t : Nat) (v : Int) : Prop := (∃ c q, aob sz im v c ∧ awCl[c]? = some q ∧ (eT t = .object q.1 ∨ ∃ T, eT t = .object T ∧ Cond.castable q.1 T ∈ lw_tbl)) ∨ (t = 7 ∧ ∃ N, aar sz im v 1 N)
theorem aw_aastore {Z : aZ} {M : aMD} {d kc ks pc : Nat} {L : List (Option aV)} {st : List aV} {sz : Int} {im : Int → aIm} {ct : Int → Int → Int} {a v j N : Int} {t : Nat} (hd : decode M.2.1 pc = .ok (.aastore, 1)) (ha : aar sz im a t N) (ht : 4 ≤ t) (h0 : 0 ≤ j) (hj : j < N) (hm : mayS sz im t v) (kk : AW Z M d kc ks (pc + 1) L st (sz, im, aup ct a j v)) : AW Z M d kc ks pc L (vR v :: vI j :: vR a :: st) (sz, im, ct) := by
  intro p l e R s m args below meth c D dA sA A ad0 sz0 mc ms C ad H locs cells slots ls rst hE hH hL hst hS hk1 hk2
  obtain ⟨hx, hb, hml, hown, hts, hret, hlk, hnm, htab, hR, hV, hA⟩ := id C
  obtain ⟨_, _, rfl, hv1, _, _, rfl, ⟨ri, rfl, hri⟩, _, rs, rfl, h1, hst⟩ := hst
  subst hri
  obtain ⟨n, E, hn, h2, hP, hD⟩ := id hH
  try dsimp only at h2
  have hv9 : 0 ≤ v ∧ v < sz := by
    rcases hm with ⟨c9, q9, hm, -⟩ | ⟨-, N9, hm⟩
    · exact ⟨hm.1, hm.2.1⟩
    · exact ⟨hm.1, hm.2.1⟩
  obtain ⟨b, rfl⟩ := Int.nat_of ha.1
  have hlt : b < n := by have h9 : sz = (n : Int) := hn; have h8 := ha.2.1; omega
  obtain rfl := vokR h1
  obtain ⟨w, rfl⟩ := Int.nat_of hv9.1
  have hltw : w < n := by have h9 : sz = (n : Int) := hn; have h8 := hv9.2; omega
  obtain rfl := vokR hv1
  obtain ⟨t9, hsm, g, e1, e2⟩ := (h2 b hlt).rf ha.2.2.1 ht
  have o3 := ha.2.2.2
  have hc9 := clamp_eq ri h0
  have hltj : ri.toNatClampNeg < (im b).2.1 := by omega
  have hat := hP b _ (wsl_get hlt)
  rw [e1] at hat
  have hatv := hP w _ (wsl_get hltw)
  obtain ⟨kA, comp, k1, k2, k3, k4⟩ := arr_kind hV.2.1 hV.2.2.2.1 ht t9
  have href : (eT t).isReference = true := by
    match t, ht, t9 with
    | 4, _, _ => rfl
    | 5, _, _ => rfl
    | 6, _, _ => rfl
    | 7, _, _ => rfl
    | 8, _, _ => rfl
  have hcv : ∃ (cv : Cell) (kv kcomp : Class), H[ad w]? = some cv ∧ (∀ q, cv.vm ≠ .statics q) ∧ s.vm.classes[cv.cls]? = some kv ∧ s.vm.classes[comp]? = some kcomp ∧ s.vm.assignable cv.cls comp = true := by
    rcases hm with ⟨c9, q9, hm, hq9, hcs⟩ | ⟨h7, N9, hm⟩
    · obtain ⟨fs, f1, -, -⟩ := (h2 w hltw).obj hm.2.2 hq9
      rw [f1] at hatv
      obtain ⟨r, r1, cell, r2, r3, r4, -⟩ := hatv
      have r5 : r = q9 := Option.some.inj (r1.symm.trans hq9)
      subst r5
      obtain ⟨hfc, kC, hkC, -⟩ := (hV.2.1.1 c9 r hq9).2
      rcases hcs with hcs | ⟨T9, hcs, hct⟩
      · have hcomp := k4 _ hcs
        have e9 : comp = D.1 c9 := Option.some.inj (hcomp.symm.trans hfc)
        subst e9
        exact ⟨cell, kC, kC, r2, (fun q h => by rw [r4] at h; cases h), by rw [r3]; exact hkC, hkC, by rw [r3]; exact va_asg _ _⟩
      · have hcomp := k4 _ hcs
        obtain ⟨x1, x2, y1, y2, y3⟩ := Cond.castable_spec (va_Nw.use (A := args) rfl (hV.2.2.1 _ hct rfl))
        have z1 : x1 = D.1 c9 := Option.some.inj (y1.symm.trans hfc)
        have z2 : x2 = comp := Option.some.inj (y2.symm.trans hcomp)
        subst z1; subst z2
        obtain ⟨kc9, hkc9, -⟩ := Vm.findClass_spec hcomp
        exact ⟨cell, kC, kc9, r2, (fun q h => by rw [r4] at h; cases h), by rw [r3]; exact hkC, hkc9, by rw [r3]; exact y3⟩
    · obtain ⟨-, g9, f1, -⟩ := (h2 w hltw).sm hm.2.2.1 (by decide)
      rw [f1] at hatv
      have ec := k3 h7
      subst ec
      obtain ⟨-, kS, hkS, -⟩ := (hV.2.1.2 1 _ (awTys_get (by decide))).1 0 (fun _ => .null)
      have hkS : s.vm.classes[dA 1]? = some kS := hkS
      exact ⟨_, kS, kS, hatv, (fun q h => by cases h), hkS, hkS, va_asg _ _⟩
  obtain ⟨cv, kv, kcomp, c1, c2, c3, c4, c5⟩ := hcv
  refine W.aast hx hb hat (fun q h => by cases h) (fun h => by cases h) k1 k2 href c4 ⟨fun q => by have := Int32.lt_iff_toInt_lt.mp q; rw [i32_z] at this; omega, by show _ < (arrV _ _ _).slots.size; rw [arrV_size]; exact hltj⟩ c1 c2 c3 c5 rfl rfl hd fun H1 eH z oq => ?_
  have hrel : relE dA sA ad sz (im b) ((aup ct b ri.toInt w) b) (.inl (dA t, (im b).2.1, .inr (.inr (.inr (.inr (va_up g ri.toNatClampNeg (some (ad w)))))))) := by
    refine Or.inr (Or.inr (Or.inr ⟨t, ha.2.2.1, ht, t9, hsm, _, rfl, fun i hi => ?_⟩))
    simp only [aup, true_and, va_up]
    by_cases hij : i = ri.toNatClampNeg
    · rw [if_pos (by omega), if_pos hij]
      exact Or.inr ⟨hv9.1, hv9.2, rfl⟩
    · rw [if_neg (by omega), if_neg hij]
      exact e2 i hi
  have he : (wsl n ad E)[b]? = some (ad b, .inl (dA t, (im b).2.1, .inr (.inr (.inr (.inr g))))) := by rw [wsl_get hlt, e1]
  have hP1 : va_P D awCl ((wsl n ad E).set b (ad b, .inl (dA t, (im b).2.1, .inr (.inr (.inr (.inr (va_up g ri.toNatClampNeg (some (ad w)))))))))  H1 := by
    refine hP.set hD he ?_ oq
    show H1[ad b]? = some (vp_cell _ _)
    rw [eH]
    rw [vp_cell_q, vp_cell_q, arrV_store]
    congr 2
    funext i
    unfold updV va_up
    split <;> rfl
  exact kk p l e R s m args below meth c D dA sA A ad0 sz0 mc ms C ad H1 _ cells slots ls rs hE (HR.up hn h2 hlt hP1 (hD.set he) hrel (fun b9 _ hb9 => ⟨rfl, by funext j9; unfold aup; rw [if_neg (by omega)]⟩)) hL hst (hS.put z oq (hD.2 b _ he)) hk1 hk2
theorem aw_anew {Z : aZ} {M : aMD} {d kc ks pc : Nat} {L : List (Option aV)} {st : List aV} {sz : Int} {im : Int → aIm} {ct : Int → Int → Int} {N9 : Int} {i t : Nat} {C9 : String} (hd : decode M.2.1 pc = .ok (.anewarray i, 3)) (hl : Cond.classLink M.1.cls i C9 ∈ lw_all) (ht4 : 4 ≤ t) (ht9 : t < 9) (het : eT t = .object C9) (hao : FieldType.object C9 ∈ awAO) (h0 : 0 ≤ N9) (h1 : N9 ≤ 60000000)
    (kk : AW Z M d kc ks (pc + 3) L (vR sz :: st) (sz + 1, upA im sz (50 + t, N9.toNat, fun _ => 0), upA ct sz (fun _ => -1))) : AW Z M d (kc + 1) (ks + N9.toNat) pc L (vI N9 :: st) (sz, im, ct) := by
  intro p l e R s m args below meth c D dA sA A ad0 sz0 mc ms C ad H locs cells slots ls rst hE hH hL hst hS hk1 hk2
  obtain ⟨hx, hb, hml, hown, hts, hret, hlk, hnm, htab, hR, hV, hA⟩ := id C
  obtain ⟨_, rs, rfl, ⟨rN, rfl, hrN⟩, hst⟩ := hst
  subst hrN
  obtain ⟨n, E, hn, h2, hP, hD⟩ := id hH
  try dsimp only at h2
  have hn : sz = (n : Int) := hn
  have hc9 := clamp_eq rN h0
  have hcl9 : rN.toNatClampNeg = rN.toInt.toNat := by omega
  refine va_newq (C := C9) (N' := rN.toInt.toNat) hx hb hown (hts _ hl) (hV.2.2.2.1 _ hao) hV.2.1 hP hD hS hA (fun h => by have := Int32.lt_iff_toInt_lt.mp h; rw [i32_z] at this; omega) hcl9 (by omega) (by omega) (by omega) hd fun q9 cA H1 hK1 hP1 hD1 hS1 => ?_
  have hcA : cA = dA t := by
    obtain ⟨-, -, -, -, -, f3⟩ := (hK1.2 9 (cA, .object C9) rfl).2
    have f2 := (hV.2.1.2 t _ (awTys_get ht9)).2
    rw [het] at f2
    obtain ⟨-, -, -, -, -, f4⟩ := f2
    exact Option.some.inj (f3.symm.trans f4)
  subst hcA
  have hex : AEX ad sz (adp ad sz q9) (sz + 1) := adp_ex
  have hrel : relE dA sA (adp ad n q9) (sz + 1) (upA im sz (50 + t, rN.toInt.toNat, fun _ => 0) n) (upA ct sz (fun _ => -1) n) (.inl (dA t, rN.toInt.toNat, .inr (.inr (.inr (.inr (fun _ => none)))))) := by
    rw [hn, upA_s, upA_s]
    have hb9 := i32_hi rN
    exact Or.inr (Or.inr (Or.inr ⟨t, rfl, ht4, ht9, by show rN.toInt.toNat < _; omega, _, rfl, fun j hj => Or.inl ⟨rfl, rfl⟩⟩))
  have hH1 : HR D dA sA A (adp ad n q9) (sz + 1, upA im sz (50 + t, rN.toInt.toNat, fun _ => 0), upA ct sz (fun _ => -1)) H1 := HR.push hn h2 hP1 hD1 hrel (fun b hb9 => ⟨upA_n (by omega), upA_n (by omega)⟩)
  rw [← hn] at hH1
  exact kk p l e R s m args below meth c D dA sA A ad0 sz0 mc ms C (adp ad sz q9) H1 locs (cells + 1) (slots + rN.toInt.toNat) ls (.ref q9 :: rs) (hE.trans hex) hH1 (hL.mono hex) ⟨_, _, rfl, Or.inr (Or.inl ⟨by omega, by show sz < sz + 1; omega, by simp [adp]⟩), hst.mono hex⟩ hS1 (by omega) (by omega)
def arrN (t : Nat) : String := match t with
  | 0 => "[B"
  | 1 => "[S"
  | 2 => "[I"
  | _ => "[J"
theorem arrN_cls {D : va_G} {dA : Nat → ClassId} {s : State} (hK : va_K D awCl (awTys dA) s) {t : Nat} (ht : t < 4) : s.vm.findClass (arrN t) = some (dA t) := by
  match t, ht with
  | 0, _ => exact (hK.2 0 _ (awTys_get (by decide))).2
  | 1, _ => exact (hK.2 1 _ (awTys_get (by decide))).2
  | 2, _ => exact (hK.2 2 _ (awTys_get (by decide))).2
  | 3, _ => exact (hK.2 3 _ (awTys_get (by decide))).2
theorem aw_instY {Z : aZ} {M : aMD} {d kc ks pc : Nat} {L : List (Option aV)} {st : List aV} {sz : Int} {im : Int → aIm} {ct : Int → Int → Int} {a N : Int} {t i : Nat} (hd : decode M.2.1 pc = .ok (.instanceof i, 3)) (ha : aar sz im a t N) (ht : t < 4) (hl : Cond.classLink M.1.cls i (arrN t) ∈ lw_all) (kk : AW Z M d kc ks (pc + 3) L (vI 1 :: st) (sz, im, ct)) : AW Z M d kc ks pc L (vR a :: st) (sz, im, ct) := by
  intro p l e R s m args below meth c D dA sA A ad0 sz0 mc ms C ad H locs cells slots ls rst hE hH hL hst hS hk1 hk2
  obtain ⟨hx, hb, hml, hown, hts, hret, hlk, hnm, htab, hR, hV, hA⟩ := id C
  obtain ⟨_, rs, rfl, h1, hst⟩ := hst
  obtain ⟨n, E, hn, h2, hP, hD⟩ := id hH
  try dsimp only at h2
  obtain ⟨b, rfl⟩ := Int.nat_of ha.1
  have hlt : b < n := by have h9 : sz = (n : Int) := hn; have h8 := ha.2.1; omega
  obtain rfl := vokR h1
  obtain ⟨t9, hsm, x, e1, e2⟩ := (h2 b hlt).ar ha.2.2.1
  have he : (wsl n ad E)[b]? = some (ad b, .inl (dA t, x)) := by rw [wsl_get hlt, e1]
  have hat := hP b _ he
  have hcell : ∃ cell : Cell, H[ad b]? = some cell ∧ cell.vm.isStatics = false ∧ cell.cls = dA t := by
    refine ⟨_, hat, ?_, ?_⟩
    · obtain ⟨n, f | f | f | f | f⟩ := x <;> rfl
    · obtain ⟨n, f | f | f | f | f⟩ := x <;> rfl
  obtain ⟨cell, c1, c2, c3⟩ := hcell
  refine va_instE (nm := arrN t) hx hb hown (hts _ hl) ⟨cell, c1, c2, by rw [c3]; exact arrN_cls hV.2.1 ht⟩ hd ?_
  exact kk p l e R s m args below meth c D dA sA A ad0 sz0 mc ms C ad H locs cells slots ls (.int 1 :: rs) hE hH hL ⟨_, _, rfl, ⟨1, rfl, rfl⟩, hst⟩ hS hk1 hk2
theorem aw_instN {Z : aZ} {M : aMD} {d kc ks pc : Nat} {L : List (Option aV)} {st : List aV} {sz : Int} {im : Int → aIm} {ct : Int → Int → Int} {a N : Int} {t i : Nat} {nm : String} (hd : decode M.2.1 pc = .ok (.instanceof i, 3)) (ha : aar sz im a t N) (ht : t < 4) (hl : Cond.classLink M.1.cls i nm ∈ lw_all) (hn9 : (arrN t, nm) ∈ awNc) (kk : AW Z M d kc ks (pc + 3) L (vI 0 :: st) (sz, im, ct)) : AW Z M d kc ks pc L (vR a :: st) (sz, im, ct) := by
  intro p l e R s m args below meth c D dA sA A ad0 sz0 mc ms C ad H locs cells slots ls rst hE hH hL hst hS hk1 hk2
  obtain ⟨hx, hb, hml, hown, hts, hret, hlk, hnm, htab, hR, hV, hA⟩ := id C
  obtain ⟨_, rs, rfl, h1, hst⟩ := hst
  obtain ⟨n, E, hn, h2, hP, hD⟩ := id hH
  try dsimp only at h2
  obtain ⟨b, rfl⟩ := Int.nat_of ha.1
  have hlt : b < n := by have h9 : sz = (n : Int) := hn; have h8 := ha.2.1; omega
  obtain rfl := vokR h1
  obtain ⟨t9, hsm, x, e1, e2⟩ := (h2 b hlt).ar ha.2.2.1
  have he : (wsl n ad E)[b]? = some (ad b, .inl (dA t, x)) := by rw [wsl_get hlt, e1]
  have hat := hP b _ he
  have hcell : ∃ cell : Cell, H[ad b]? = some cell ∧ cell.vm.isStatics = false ∧ cell.cls = dA t := by
    refine ⟨_, hat, ?_, ?_⟩
    · obtain ⟨n, f | f | f | f | f⟩ := x <;> rfl
    · obtain ⟨n, f | f | f | f | f⟩ := x <;> rfl
  obtain ⟨cell, c1, c2, c3⟩ := hcell
  refine va_instNo (C := arrN t) (nm := nm) hx hb hown (hts _ hl) (hV.2.2.2.2.1 _ hn9) ⟨cell, c1, c2, by rw [c3]; exact arrN_cls hV.2.1 ht⟩ hd ?_
  exact kk p l e R s m args below meth c D dA sA A ad0 sz0 mc ms C ad H locs cells slots ls (.int 0 :: rs) hE hH hL ⟨_, _, rfl, ⟨0, rfl, rfl⟩, hst⟩ hS hk1 hk2
theorem aw_castA {Z : aZ} {M : aMD} {d kc ks pc : Nat} {L : List (Option aV)} {st : List aV} {sz : Int} {im : Int → aIm} {ct : Int → Int → Int} {a N : Int} {t i : Nat} (hd : decode M.2.1 pc = .ok (.checkcast i, 3)) (ha : aar sz im a t N) (ht : t < 4) (hl : Cond.classLink M.1.cls i (arrN t) ∈ lw_all) (kk : AW Z M d kc ks (pc + 3) L (vR a :: st) (sz, im, ct)) : AW Z M d kc ks pc L (vR a :: st) (sz, im, ct) := by
  intro p l e R s m args below meth c D dA sA A ad0 sz0 mc ms C ad H locs cells slots ls rst hE hH hL hst hS hk1 hk2
  obtain ⟨hx, hb, hml, hown, hts, hret, hlk, hnm, htab, hR, hV, hA⟩ := id C
  obtain ⟨_, rs, rfl, h1, hst⟩ := hst
  obtain ⟨n, E, hn, h2, hP, hD⟩ := id hH
  try dsimp only at h2
  obtain ⟨b, rfl⟩ := Int.nat_of ha.1
  have hlt : b < n := by have h9 : sz = (n : Int) := hn; have h8 := ha.2.1; omega
  obtain rfl := vokR h1
  obtain ⟨t9, hsm, x, e1, e2⟩ := (h2 b hlt).ar ha.2.2.1
  have he : (wsl n ad E)[b]? = some (ad b, .inl (dA t, x)) := by rw [wsl_get hlt, e1]
  have hat := hP b _ he
  have hcell : ∃ cell : Cell, H[ad b]? = some cell ∧ cell.vm.isStatics = false ∧ cell.cls = dA t := by
    refine ⟨_, hat, ?_, ?_⟩
    · obtain ⟨n, f | f | f | f | f⟩ := x <;> rfl
    · obtain ⟨n, f | f | f | f | f⟩ := x <;> rfl
  obtain ⟨cell, c1, c2, c3⟩ := hcell
  refine va_castA (nm := arrN t) hx hb hown (hts _ hl) hP b he (arrN_cls hV.2.1 ht) hd ?_
  exact kk p l e R s m args below meth c D dA sA A ad0 sz0 mc ms C ad H locs cells slots ls (.ref (ad b) :: rs) hE hH hL ⟨_, _, rfl, Or.inr (Or.inl ⟨ha.1, ha.2.1, rfl⟩), hst⟩ hS hk1 hk2
def acp (ct : Int → Int → Int) (a sp b dp n : Int) : Int → Int → Int := upA ct b (fun j => if dp ≤ j ∧ j < dp + n then ct a (sp + (j - dp)) else ct b j)
theorem cp_words : nativeFrameWords "java/lang/System" "arraycopy" 5 ≤ 30 := by decide +kernel
theorem aw_copys {Z : aZ} {M : aMD} {d kc ks pc : Nat} {L : List (Option aV)} {st : List aV} {sz : Int} {im : Int → aIm} {ct : Int → Int → Int} {a b sp dp k Na Nb : Int} {i : Nat} {t : Nat} (hd : decode M.2.1 pc = .ok (.invokestatic i, 3)) (hq : Cond.methodLink M.1.cls i arraycopyName ∈ lw_all) (hq1 : Cond.native arraycopyName ∈ lw_all) (hq2 : Cond.static arraycopyName ∈ lw_all) (hq3 : Cond.initialized "java/lang/System" ∈ lw_all) (ht : t < 3) (ha : aar sz im a t Na) (hb9 : aar sz im b t Nb) (h0 : 0 ≤ k) (h1 : 0 ≤ dp) (h3 : 0 ≤ sp) (h5 : sp + k ≤ Na) (h6 : dp + k ≤ Nb) (hw : stW st ≤ 8) (hdd : 1 ≤ d)
    (kk : AW Z M d kc ks (pc + 3) L st (sz, im, acp ct a sp b dp k)) : AW Z M d kc ks pc L (vI k :: vI dp :: vR b :: vI sp :: vR a :: st) (sz, im, ct) := by
  intro p l e R s m args below meth c D dA sA A ad0 sz0 mc ms C ad H locs cells slots ls rst hE hH hL hst hS hk1 hk2
  obtain ⟨hx, hb, hml, hown, hts, hret, hlk, hnm, htab, hR, hV, hA⟩ := id C
  obtain ⟨_, _, rfl, ⟨rn, rfl, hrn⟩, _, _, rfl, ⟨rd, rfl, hrd⟩, _, _, rfl, hvb, _, _, rfl, ⟨rp, rfl, hrp⟩, _, rs, rfl, hva, hst⟩ := hst
  subst hrn; subst hrd; subst hrp
  obtain ⟨n, E, hn, h2, hP, hD⟩ := id hH
  try dsimp only at h2
  obtain ⟨a9, rfl⟩ := Int.nat_of ha.1
  have hlta : a9 < n := by have h9 : sz = (n : Int) := hn; have h8 := ha.2.1; omega
  obtain rfl := vokR hva
  obtain ⟨b9, rfl⟩ := Int.nat_of hb9.1
  have hltb : b9 < n := by have h9 : sz = (n : Int) := hn; have h8 := hb9.2.1; omega
  obtain rfl := vokR hvb
  have oa := ha.2.2.2
  have ob := hb9.2.2.2
  have e1 := clamp_eq rn h0
  have e2 := clamp_eq rd h1
  have e3 := clamp_eq rp h3
  have nz : ∀ z : Int32, 0 ≤ z.toInt → ¬ z < 0 := fun z hz q => by have := Int32.lt_iff_toInt_lt.mp q; rw [i32_z] at this; omega
  have hcat := hst.cat
  have hcw := cp_words
  obtain ⟨k0, lv, k1, k2⟩ := id hL
  obtain ⟨as9, x1, x2, x3⟩ := (h2 a9 hlta).sm ha.2.2.1 ht
  obtain ⟨bs, y1, y2, y3⟩ := (h2 b9 hltb).sm hb9.2.2.1 ht
  refine va_copyi hx hb (by rw [hml]; exact k1.1.symm) hown (hts _ hq) (hts _ hq1) (hts _ hq2) (hts _ hq3) hV.2.1 hP hD hS a9 b9 t t (by rw [wsl_get hlta, x2]) (by rw [wsl_get hltb, y2]) (awTys_get (by omega)) (awTys_get (by omega)) (by match t, ht with | 0, _ => rfl | 1, _ => rfl | 2, _ => rfl) (nz _ h3) (nz _ h1) (nz _ h0) (by omega) (by omega) (fun i hi => (x3 _ (by omega)).2) (by omega) (by omega) hd fun H1 locs1 hP1 hD1 hS1 => ?_
  have hrel : relE dA sA ad sz (im b9) ((acp ct a9 rp.toInt b9 rd.toInt rn.toInt) b9) (.inl (dA t, (im b9).2.1, .inl (va_cpy x1 y1 rp.toNatClampNeg rd.toNatClampNeg rn.toNatClampNeg))) := by
    refine Or.inr (Or.inl ⟨t, hb9.2.2.1, ht, bs, _, rfl, fun j hj => ?_⟩)
    simp only [acp, upA_s, va_cpy]
    by_cases hj9 : rd.toNatClampNeg ≤ j ∧ j < rd.toNatClampNeg + rn.toNatClampNeg
    · rw [if_pos (by omega), if_pos hj9]
      have h8 := x3 (rp.toNatClampNeg + (j - rd.toNatClampNeg)) (by omega)
      have h7 : ((rp.toNatClampNeg + (j - rd.toNatClampNeg) : Nat) : Int) = rp.toInt + ((j : Int) - rd.toInt) := by omega
      rw [h7] at h8
      exact h8
    · rw [if_neg (by omega), if_neg hj9]
      exact y3 j hj
  exact kk p l e R s m args below meth c D dA sA A ad0 sz0 mc ms C ad H1 locs1 cells slots ls rs hE (HR.up hn h2 hltb hP1 hD1 hrel (fun c9 _ hc9 => ⟨rfl, upA_n (by omega)⟩)) hL hst hS1 hk1 hk2
theorem aw_copyl {Z : aZ} {M : aMD} {d kc ks pc : Nat} {L : List (Option aV)} {st : List aV} {sz : Int} {im : Int → aIm} {ct : Int → Int → Int} {a b sp dp k Na Nb : Int} {i : Nat} (hd : decode M.2.1 pc = .ok (.invokestatic i, 3)) (hq : Cond.methodLink M.1.cls i arraycopyName ∈ lw_all) (hq1 : Cond.native arraycopyName ∈ lw_all) (hq2 : Cond.static arraycopyName ∈ lw_all) (hq3 : Cond.initialized "java/lang/System" ∈ lw_all) (ha : aar sz im a 3 Na) (hb9 : aar sz im b 3 Nb) (h0 : 0 ≤ k) (h1 : 0 ≤ dp) (h3 : 0 ≤ sp) (h5 : sp + k ≤ Na) (h6 : dp + k ≤ Nb) (hw : stW st ≤ 8) (hdd : 1 ≤ d)
    (kk : AW Z M d kc ks (pc + 3) L st (sz, im, acp ct a sp b dp k)) : AW Z M d kc ks pc L (vI k :: vI dp :: vR b :: vI sp :: vR a :: st) (sz, im, ct) := by
  intro p l e R s m args below meth c D dA sA A ad0 sz0 mc ms C ad H locs cells slots ls rst hE hH hL hst hS hk1 hk2
  obtain ⟨hx, hb, hml, hown, hts, hret, hlk, hnm, htab, hR, hV, hA⟩ := id C
  obtain ⟨_, _, rfl, ⟨rn, rfl, hrn⟩, _, _, rfl, ⟨rd, rfl, hrd⟩, _, _, rfl, hvb, _, _, rfl, ⟨rp, rfl, hrp⟩, _, rs, rfl, hva, hst⟩ := hst
  subst hrn; subst hrd; subst hrp
  obtain ⟨n, E, hn, h2, hP, hD⟩ := id hH
  try dsimp only at h2
  obtain ⟨a9, rfl⟩ := Int.nat_of ha.1
  have hlta : a9 < n := by have h9 : sz = (n : Int) := hn; have h8 := ha.2.1; omega
  obtain rfl := vokR hva
  obtain ⟨b9, rfl⟩ := Int.nat_of hb9.1
  have hltb : b9 < n := by have h9 : sz = (n : Int) := hn; have h8 := hb9.2.1; omega
  obtain rfl := vokR hvb
  have oa := ha.2.2.2
  have ob := hb9.2.2.2
  have e1 := clamp_eq rn h0
  have e2 := clamp_eq rd h1
  have e3 := clamp_eq rp h3
  have nz : ∀ z : Int32, 0 ≤ z.toInt → ¬ z < 0 := fun z hz q => by have := Int32.lt_iff_toInt_lt.mp q; rw [i32_z] at this; omega
  have hcat := hst.cat
  have hcw := cp_words
  obtain ⟨k0, lv, k1, k2⟩ := id hL
  obtain ⟨as9, x1, x2, x3⟩ := (h2 a9 hlta).lg ha.2.2.1
  obtain ⟨bs, y1, y2, y3⟩ := (h2 b9 hltb).lg hb9.2.2.1
  refine va_copyl hx hb (by rw [hml]; exact k1.1.symm) hown (hts _ hq) (hts _ hq1) (hts _ hq2) (hts _ hq3) hV.2.1 hP hD hS a9 b9 3 3 (by rw [wsl_get hlta, x2]) (by rw [wsl_get hltb, y2]) (awTys_get (by omega)) (awTys_get (by omega)) rfl (nz _ h3) (nz _ h1) (nz _ h0) (by omega) (by omega) (fun i hi => rfl) (by omega) (by omega) hd fun H1 locs1 hP1 hD1 hS1 => ?_
  have hrel : relE dA sA ad sz (im b9) ((acp ct a9 rp.toInt b9 rd.toInt rn.toInt) b9) (.inl (dA 3, (im b9).2.1, .inr (.inl (va_cpy x1 y1 rp.toNatClampNeg rd.toNatClampNeg rn.toNatClampNeg)))) := by
    refine Or.inr (Or.inr (Or.inl ⟨hb9.2.2.1, bs, _, rfl, fun j hj => ?_⟩))
    simp only [acp, upA_s, va_cpy]
    by_cases hj9 : rd.toNatClampNeg ≤ j ∧ j < rd.toNatClampNeg + rn.toNatClampNeg
    · rw [if_pos (by omega), if_pos hj9]
      have h8 := x3 (rp.toNatClampNeg + (j - rd.toNatClampNeg)) (by omega)
      have h7 : ((rp.toNatClampNeg + (j - rd.toNatClampNeg) : Nat) : Int) = rp.toInt + ((j : Int) - rd.toInt) := by omega
      rw [h7] at h8
      exact h8
    · rw [if_neg (by omega), if_neg hj9]
      exact y3 j hj
  exact kk p l e R s m args below meth c D dA sA A ad0 sz0 mc ms C ad H1 locs1 cells slots ls rs hE (HR.up hn h2 hltb hP1 hD1 hrel (fun c9 _ hc9 => ⟨rfl, upA_n (by omega)⟩)) hL hst hS1 hk1 hk2
theorem lw_U {own : String} {idx : Nat} {C owner : String} {x y : MethodName} {b : ByteArray} {L : Nat} {r : Option FieldType} (h1 : Cond.methodLink own idx x ∈ lw_all) (h2 : Cond.sameMethod x.cls owner x.name x.desc ∈ lw_all) (h3 : Cond.selects C x y ∈ lw_all) (h4 : Cond.instanceMethod y ∈ lw_all) (h5 : Cond.initialized y.cls ∈ lw_all) (h6 : Cond.code y b L r ∈ lw_all) : GoodIn lw_all (va_wsU own idx C owner x y (ws_ y b L r)) := by
  refine lw_app ?_ (lw_meth h6)
  intro w hw
  simp only [List.mem_cons, List.not_mem_nil, or_false] at hw
  rcases hw with e | e | e | e | e
  · rw [e]; exact h1
  · rw [e]; exact h2
  · rw [e]; exact h3
  · rw [e]; exact h4
  · rw [e]; exact h5
/-- a method named by x, found in the class owner above, of an object of class C9 -/
theorem aw_callU {Z : aZ} {M N : aMD} {x : MethodName} {C9 owner : String} {d d' kc ks kc' ks' pc n c9 i : Nat} {L : List (Option aV)} {st as : List aV} {G : aG} {a : Int} (hN : MOK N n) (hl : Cond.methodLink M.1.cls i x ∈ lw_all) (hsm : Cond.sameMethod x.cls owner x.name x.desc ∈ lw_all) (hs : Cond.selects C9 x N.1 ∈ lw_all) (hi : Cond.instanceMethod N.1 ∈ lw_all) (hyx : N.1 = ⟨owner, x.name, x.desc⟩) (hdx : owner ≠ "java/lang/invoke/MethodHandle" ∧ owner ≠ "java/lang/invoke/VarHandle" ∧ (parseMethodDescriptor x.desc).map (fun d => d.parameters.length) = some n) (hd : decode M.2.1 pc = .ok (.invokevirtual i, 3)) (ho : aob G.1 G.2.1 a c9) (hc : ∃ q, awCl[c9]? = some q ∧ q.1 = C9) (hn9 : as.length = n) (hw : stW st ≤ 8) (hdd : d' + 1 ≤ d)
    (hm : AMet N d' kc' ks' (vR a :: as) G (aK Z M d kc ks pc L st)) : AW Z M d (kc' + kc) (ks' + ks) pc L (as.reverse ++ vR a :: st) G := by
  intro p l e R s m args below meth c D dA sA A ad0 sz0 mc ms C ad H locs cells slots ls rst hE hH hL hst hS hk1 hk2
  obtain ⟨hx, hb, hml, hown, hts, hret, hlk, hnm, htab, hR, hV, hA⟩ := id C
  obtain ⟨r1, r2, rfl, hr1, hr2, hlen⟩ := srel.split hst
  obtain ⟨_, rs, rfl, h1, hst2⟩ := hr2
  obtain ⟨n9, E, hn, h2, hP, hD⟩ := id hH
  obtain ⟨b, rfl⟩ := Int.nat_of ho.1
  have hlt : b < n9 := by have h9 : G.1 = (n9 : Int) := hn; have h8 := ho.2.1; omega
  obtain rfl := vokR h1
  obtain ⟨q9, hq9, hqn⟩ := hc
  obtain ⟨fs, f1, f2, f3⟩ := (h2 b hlt).obj ho.2.2 hq9
  have he : (wsl n9 ad E)[b]? = some (ad b, .inr (c9, fs)) := by rw [wsl_get hlt, f1]
  have hrv := va_recv hV.2.1 hP hq9 he
  rw [hqn] at hrv
  obtain ⟨m0, m1, m2, m3, m4, m5⟩ := hN
  have hargs : srel sA ad G.1 (vR (b : Int) :: as) (Value.ref (ad b) :: r1.reverse) := ⟨_, _, rfl, Or.inr (Or.inl ⟨ho.1, ho.2.1, rfl⟩), by simpa using hr1.rev⟩
  have hmet := hm l D dA sA ad H.size _ hargs
  have hcat := hst2.cat
  obtain ⟨k0, lv, k1, k2⟩ := id hL
  rw [awWs_0 m0] at hmet
  refine aw_after (a9 := (Value.ref (ad b) :: r1.reverse).toArray) C hE hH hL hst2 hS hk1 hk2 ?_
  refine vx_runU (As := r1.reverse) (rest := rs) ⟨hx, hb, hml, hown, hts⟩ hmet (va_cwU n hts (lw_U hl hsm hs hi m2 m1) rfl rfl rfl hyx hdx ⟨by show d' + 1 ≤ _; omega, by show 8 + (N.2.2.1 + 11) + 64 * d' ≤ _; omega⟩) ⟨aPc_blind, hrv, aPc_at C hH hS⟩ rfl (by simp [hlen, hn9]) k1.1 (by show r1 ++ _ = _; simp) (by show 2 * 0 + _ ≤ 8; omega) hd ⟨by show cells + kc' ≤ _; omega, by show slots + ks' ≤ _; omega⟩
/-- a call whose named method is abstract: the object's own class has it -/
theorem aw_callA {Z : aZ} {M N : aMD} {x : MethodName} {C9 owner : String} {d d' kc ks kc' ks' pc n c9 i : Nat} {L : List (Option aV)} {st as : List aV} {G : aG} {a : Int} (hN : MOK N n) (hl : Cond.methodLink M.1.cls i x ∈ lw_all) (hsm : Cond.sameMethod x.cls owner x.name x.desc ∈ lw_all) (hs : Cond.selects C9 x N.1 ∈ lw_all) (hi : Cond.instanceMethod N.1 ∈ lw_all) (hdc : Cond.declares ⟨owner, x.name, x.desc⟩ ∈ lw_tbl) (hdx : owner ≠ "java/lang/invoke/MethodHandle" ∧ owner ≠ "java/lang/invoke/VarHandle" ∧ (parseMethodDescriptor x.desc).map (fun d => d.parameters.length) = some n) (hd : decode M.2.1 pc = .ok (.invokevirtual i, 3)) (ho : aob G.1 G.2.1 a c9) (hc : ∃ q, awCl[c9]? = some q ∧ q.1 = C9) (hn9 : as.length = n) (hw : stW st ≤ 8) (hdd : d' + 1 ≤ d)
    (hm : AMet N d' kc' ks' (vR a :: as) G (aK Z M d kc ks pc L st)) : AW Z M d (kc' + kc) (ks' + ks) pc L (as.reverse ++ vR a :: st) G := by
  intro p l e R s m args below meth c D dA sA A ad0 sz0 mc ms C ad H locs cells slots ls rst hE hH hL hst hS hk1 hk2
  obtain ⟨hx, hb, hml, hown, hts, hret, hlk, hnm, htab, hR, hV, hA⟩ := id C
  obtain ⟨r1, r2, rfl, hr1, hr2, hlen⟩ := srel.split hst
  obtain ⟨_, rs, rfl, h1, hst2⟩ := hr2
  obtain ⟨n9, E, hn, h2, hP, hD⟩ := id hH
  obtain ⟨b, rfl⟩ := Int.nat_of ho.1
  have hlt : b < n9 := by have h9 : G.1 = (n9 : Int) := hn; have h8 := ho.2.1; omega
  obtain rfl := vokR h1
  obtain ⟨q9, hq9, hqn⟩ := hc
  obtain ⟨fs, f1, f2, f3⟩ := (h2 b hlt).obj ho.2.2 hq9
  have he : (wsl n9 ad E)[b]? = some (ad b, .inr (c9, fs)) := by rw [wsl_get hlt, f1]
  have hrv := va_recv hV.2.1 hP hq9 he
  rw [hqn] at hrv
  obtain ⟨m0, m1, m2, m3, m4, m5⟩ := hN
  have hargs : srel sA ad G.1 (vR (b : Int) :: as) (Value.ref (ad b) :: r1.reverse) := ⟨_, _, rfl, Or.inr (Or.inl ⟨ho.1, ho.2.1, rfl⟩), by simpa using hr1.rev⟩
  have hmet := hm l D dA sA ad H.size _ hargs
  have hcat := hst2.cat
  obtain ⟨k0, lv, k1, k2⟩ := id hL
  rw [awWs_0 m0] at hmet
  refine aw_after (a9 := (Value.ref (ad b) :: r1.reverse).toArray) C hE hH hL hst2 hS hk1 hk2 ?_
  refine vx_runU (As := r1.reverse) (rest := rs) ⟨hx, hb, hml, hown, hts⟩ hmet (va_cwA n hts (lw_U hl hsm hs hi m2 m1) rfl rfl rfl (hV.2.2.1 _ hdc rfl) hdx ⟨by show d' + 1 ≤ _; omega, by show 8 + (N.2.2.1 + 11) + 64 * d' ≤ _; omega⟩) ⟨aPc_blind, hrv, aPc_at C hH hS⟩ rfl (by simp [hlen, hn9]) k1.1 (by show r1 ++ _ = _; simp) (by show 2 * 0 + _ ≤ 8; omega) hd ⟨by show cells + kc' ≤ _; omega, by show slots + ks' ≤ _; omega⟩
