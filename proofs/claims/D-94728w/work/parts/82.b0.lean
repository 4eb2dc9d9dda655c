set_option maxRecDepth 100000
/-! AW, part 9: arraycopy of references (printed by aw9.py) -/
def rfv (g : Nat → Option Nat) (j : Nat) : Value := match g j with
  | none => .null
  | some x => .ref x
theorem va_copyr {p : Program} {l : Launch} {e : Env} {R : Room} {s : State} {m : MethodId} {args : Array Value} {below : List Frame} {meth : Method} {c : Code} {H : Heap} {locs : List Loc} {cells slots : Nat} {Q : State → Prop} {pc : Nat} {ls : Array Slot} {rest : List Value} {D : va_G} {cl : List vw_C} {A : Nat → Prop} {a : Nat} {ws : va_W} {H0 : Heap} {cc : ByteArray} (hexec : p.tables.exec = Jvm.exec) (hb : c.code = cc) (hml : c.maxLocals = ls.size) {own : String} {index : Nat} (hown : s.vm.findClass own = some m.cls) (hlink : (Cond.methodLink own index arraycopyName).before args s = true) (hnat : (Cond.native arraycopyName).before args s = true) (hstat : (Cond.static arraycopyName).before args s = true) (hini : (Cond.initialized "java/lang/System").before args s = true)
    (hP : va_P D cl ws H) (hD : va_D A ws) (hS : va_S A H0 H locs) (q0 q1 : Nat) {a0 : Nat} {c0 : ClassId} {n0 n1 : Nat} {f g : Nat → Option Nat} {ty : FieldType} {kA : Class} {comp : ClassId} (ha0 : ws[q0]? = some (a0, .inl (c0, n0, .inr (.inr (.inr (.inr f)))))) (ha1 : ws[q1]? = some (a, .inl (c0, n1, .inr (.inr (.inr (.inr g)))))) (hk0 : s.vm.classes[c0]? = some kA) (hkk0 : kA.kind = .array comp ty) (hprim : refKind ty = true)
    {sp dp n : Int32} (h1 : ¬ sp < 0) (h2 : ¬ dp < 0) (h3 : ¬ n < 0) (h4 : sp.toNatClampNeg + n.toNatClampNeg ≤ n0) (h5 : dp.toNatClampNeg + n.toNatClampNeg ≤ n1) (hfit : ∀ i, i < n.toNatClampNeg → fits ty (rfv f (sp.toNatClampNeg + i)) = true)
    (hel : ∀ i, i < n.toNatClampNeg → f (sp.toNatClampNeg + i) = none ∨ ∃ (x : Nat) (cv : Cell) (kv kcomp : Class), f (sp.toNatClampNeg + i) = some x ∧ H[x]? = some cv ∧ (∀ q, cv.vm ≠ .statics q) ∧ s.vm.classes[cv.cls]? = some kv ∧ s.vm.classes[comp]? = some kcomp ∧ s.vm.assignable cv.cls comp = true)
    (hframes : 1 ≤ R.frames) (hlocals : (rest.map fun v => v.category).sum + (nativeFrameWords "java/lang/System" "arraycopy" 5 + 11) ≤ R.locals) (hdg : decode cc pc = .ok (.invokestatic index, 3))
    (kk : ∀ (H1 : Heap) (locs1 : List Loc), va_P D cl (ws.set q1 (a, .inl (c0, n1, .inr (.inr (.inr (.inr (va_cpy f g sp.toNatClampNeg dp.toNatClampNeg n.toNatClampNeg))))))) H1 → va_D A (ws.set q1 (a, .inl (c0, n1, .inr (.inr (.inr (.inr (va_cpy f g sp.toNatClampNeg dp.toNatClampNeg n.toNatClampNeg))))))) → va_S A H0 H1 locs1 → W p l e R s m args below meth c H1 locs1 cells slots Q (F0 m (pc + 3) ls rest)) : W p l e R s m args below meth c H locs cells slots Q (F0 m pc ls (.int n :: .int dp :: .ref a :: .int sp :: .ref a0 :: rest)) := by
  have nn : ∀ z : Int32, ¬ z < 0 → z.toInt = (z.toNatClampNeg : Int) := by
    intro z hz
    have hz0 : (0 : Int) ≤ z.toInt := by
      have := Int32.not_lt.mp hz
      simpa using Int32.le_iff_toInt_le.mp this
    show z.toInt = ((z.toInt.toNat : Nat) : Int)
    omega
  have ev : ∀ (k : ClassId) (z : Nat) (w : Nat → Option Nat), vp_cell k (z, .inr (.inr (.inr (.inr w)))) = arrV k z (fun j => rfv w j) := fun k z w => by
    rw [vp_cell_q]
    congr 1
  intro T hT X
  have hc0 : H[a0]? = some (arrV c0 n0 (fun j => rfv f j)) := by
    have h := hP q0 _ ha0
    have h : H[a0]? = some (vp_cell c0 (n0, .inr (.inr (.inr (.inr f))))) := h
    rw [ev] at h; exact h
  have hc1 : H[a]? = some (arrV c0 n1 (fun j => rfv g j)) := by
    have h := hP q1 _ ha1
    have h : H[a]? = some (vp_cell c0 (n1, .inr (.inr (.inr (.inr g))))) := h
    rw [ev] at h; exact h
  obtain ⟨vm', X', step⟩ := X.arraycopy hexec hown hlink hnat hstat hini (src := a0) (dst := a) (cs := arrV c0 n0 (fun j => rfv f j)) (cd := arrV c0 n1 (fun j => rfv g j)) (srcPos := sp) (destPos := dp) (n := n) (by rw [hT]; exact hc0) (by rw [hT]; exact hc1)
    (fun _ h => by cases h) (fun _ h => by cases h) (fun h => by cases h) (fun h => by cases h) hk0 hk0 hkk0 hkk0 (by simp [hprim]) h1 h2 h3
    (by rw [nn sp h1, nn n h3, arrV_size]; omega)
    (by rw [nn dp h2, nn n h3, arrV_size]; omega)
    (fun vm₁ hA i hi => by
      have e : (arrV c0 n0 (fun j => rfv f j)).slots.getD (sp.toNatClampNeg + i) .null = rfv f (sp.toNatClampNeg + i) := by
        rw [Array.getD_eq_getD_getElem?, arrV_read _ _ (by omega)]
        rfl
      refine ⟨?_, ?_⟩
      · rw [e]
        exact hfit i hi
      · rw [e]
        rcases hel i hi with z | ⟨x, cv, kv, kcomp, z, z1, z2, z3, z4, z5⟩
        · unfold rfv; rw [z]; exact trivial
        · unfold rfv; rw [z]
          obtain ⟨k1, hk1, -⟩ := hA.2.2 _ _ z3
          obtain ⟨k2, hk2, -⟩ := hA.2.2 _ _ z4
          exact ⟨cv, by show T.heap[x]? = some cv; rw [hT]; exact z1, z2, ⟨k1, hk1⟩, ⟨k2, hk2⟩, by rw [← z5]; exact hA.assignable _ _⟩)
    (g := F0 m pc ls (.int n :: .int dp :: .ref a :: .int sp :: .ref a0 :: rest)) rfl (by rw [hml]) (rest := rest) rfl (by rw [hb]; exact hdg) hframes (by show 2 * 0 + _ + _ ≤ _; omega)
  have e0 : copied (arrV c0 n0 (fun j => rfv f j)) (arrV c0 n1 (fun j => rfv g j)) sp dp n = arrV c0 n1 (fun j => rfv (va_cpy f g sp.toNatClampNeg dp.toNatClampNeg n.toNatClampNeg) j) := by
    have h := va_copied (fun z : Option Nat => (match z with | none => Value.null | some x => .ref x)) c0 c0 f g h4 (n1 := n1) (dp := dp.toNatClampNeg)
    exact h
  have e1 : copied (arrV c0 n0 (fun j => rfv f j)) (arrV c0 n1 (fun j => rfv g j)) sp dp n = vp_cell c0 (n1, .inr (.inr (.inr (.inr (va_cpy f g sp.toNatClampNeg dp.toNatClampNeg n.toNatClampNeg))))) := by rw [ev]; exact e0
  rw [e1] at X' step
  have hl : a < H.size := (Array.getElem?_eq_some_iff.mp hc1).1
  have hheap : ((T.setVm vm').setCell a (vp_cell c0 (n1, .inr (.inr (.inr (.inr (va_cpy f g sp.toNatClampNeg dp.toNatClampNeg n.toNatClampNeg))))))).heap = H.setIfInBounds a (vp_cell c0 (n1, .inr (.inr (.inr (.inr (va_cpy f g sp.toNatClampNeg dp.toNatClampNeg n.toNatClampNeg)))))) := by rw [← hT]; rfl
  have oq : ∀ q : Nat, q ≠ a → (H.setIfInBounds a (vp_cell c0 (n1, .inr (.inr (.inr (.inr (va_cpy f g sp.toNatClampNeg dp.toNatClampNeg n.toNatClampNeg)))))))[q]? = H[q]? := fun q hq => by simp [Array.getElem?_setIfInBounds, Ne.symm hq]
  obtain ⟨t, a1, b1⟩ := kk _ _ (hP.set hD ha1 (show (H.setIfInBounds a _)[a]? = some _ by simp [Array.getElem?_setIfInBounds, hl]) oq) (hD.set ha1) ⟨by simp; exact hS.1, fun q g1 g2 => by
      rw [oq q (fun e => g2 (by rw [e]; exact hD.2 q1 _ ha1))]
      exact hS.2.1 q g1 g2, fun q hq => by
      rcases List.mem_append.mp hq with h | h
      · exact hS.2.2 q h
      · obtain ⟨z, -, hz⟩ := List.mem_map.mp h
        rw [← hz]
        exact hD.2 q1 _ ha1⟩ _ hheap X'
  exact ⟨t, step t a1, b1⟩
theorem aw_copyr {Z : aZ} {M : aMD} {d kc ks pc : Nat} {L : List (Option aV)} {st : List aV} {sz : Int} {im : Int → aIm} {ct : Int → Int → Int} {a b sp dp k Na Nb : Int} {i t : Nat} (hd : decode M.2.1 pc = .ok (.invokestatic i, 3)) (hq : Cond.methodLink M.1.cls i arraycopyName ∈ lw_all) (hq1 : Cond.native arraycopyName ∈ lw_all) (hq2 : Cond.static arraycopyName ∈ lw_all) (hq3 : Cond.initialized "java/lang/System" ∈ lw_all) (ht : 4 ≤ t) (ha : aar sz im a t Na) (hb9 : aar sz im b t Nb) (h0 : 0 ≤ k) (h1 : 0 ≤ dp) (h3 : 0 ≤ sp) (h5 : sp + k ≤ Na) (h6 : dp + k ≤ Nb) (hmm : ∀ j, 0 ≤ j → j < k → mayS sz im t (ct a (sp + j))) (hw : stW st ≤ 8) (hdd : 1 ≤ d)
    (kk : AW Z M d kc ks (pc + 3) L st (sz, im, acp ct a sp b dp k)) : AW Z M d kc ks pc L (vI k :: vI dp :: vR b :: vI sp :: vR a :: st) (sz, im, ct) := by
  intro p l e R s m args below meth c D dA sA A ad0 sz0 mc ms C ad H locs cells slots ls rst hE hH hL hst hS hk1 hk2
  obtain ⟨hx, hb, hml, hown, hts, hret, hlk, hnm, htab, hR, hV, hA⟩ := id C
  obtain ⟨_, _, rfl, ⟨rn, rfl, hrn⟩, _, _, rfl, ⟨rd, rfl, hrd⟩, _, _, rfl, hvb, _, _, rfl, ⟨rp, rfl, hrp⟩, _, rs, rfl, hva, hst⟩ := hst
  subst hrn; subst hrd; subst hrp
  obtain ⟨n, E, hn, h2, hP, hD⟩ := id hH
  try dsimp only at h2
  obtain ⟨a9, rfl⟩ := Int.nat_of ha.1
  have hlta : a9 < n := by have h9 : sz = (n : Int) := hn; have h8 := ha.2.1; omega
  obtain rfl := vokR hva
  obtain ⟨b9, rfl⟩ := Int.nat_of hb9.1
  have hltb : b9 < n := by have h9 : sz = (n : Int) := hn; have h8 := hb9.2.1; omega
  obtain rfl := vokR hvb
  have oa := ha.2.2.2
  have ob := hb9.2.2.2
  have e1 := clamp_eq rn h0
  have e2 := clamp_eq rd h1
  have e3 := clamp_eq rp h3
  have nz : ∀ z : Int32, 0 ≤ z.toInt → ¬ z < 0 := fun z hz q => by have := Int32.lt_iff_toInt_lt.mp q; rw [i32_z] at this; omega
  have hcat := hst.cat
  have hcw := cp_words
  obtain ⟨k0, lv, k1, k2⟩ := id hL
  obtain ⟨t9, hsa, f, x2, x3⟩ := (h2 a9 hlta).rf ha.2.2.1 ht
  obtain ⟨-, hsb, g, y2, y3⟩ := (h2 b9 hltb).rf hb9.2.2.1 ht
  have o3 := ha.2.2.2
  have o4 := hb9.2.2.2
  obtain ⟨kA, comp, v1, v2, k3, k4⟩ := arr_kind hV.2.1 hV.2.2.2.1 ht t9
  have hcv : ∀ w : Nat, w < n → mayS sz im t (w : Int) → ∃ (cv : Cell) (kv kcomp : Class), H[ad w]? = some cv ∧ (∀ q, cv.vm ≠ .statics q) ∧ s.vm.classes[cv.cls]? = some kv ∧ s.vm.classes[comp]? = some kcomp ∧ s.vm.assignable cv.cls comp = true := by
    intro w hltw hm
    have hatv := hP w _ (wsl_get hltw)
    rcases hm with ⟨c9, q9, hm, hq9, hcs⟩ | ⟨h7, N9, hm⟩
    · obtain ⟨fs, f1, -, -⟩ := (h2 w hltw).obj hm.2.2 hq9
      rw [f1] at hatv
      obtain ⟨r, r1, cell, r2, r3, r4, -⟩ := hatv
      have r5 : r = q9 := Option.some.inj (r1.symm.trans hq9)
      subst r5
      obtain ⟨hfc, kC, hkC, -⟩ := (hV.2.1.1 c9 r hq9).2
      rcases hcs with hcs | ⟨T9, hcs, hct⟩
      · have hcomp := k4 _ hcs
        have e9 : comp = D.1 c9 := Option.some.inj (hcomp.symm.trans hfc)
        subst e9
        exact ⟨cell, kC, kC, r2, (fun q h => by rw [r4] at h; cases h), by rw [r3]; exact hkC, hkC, by rw [r3]; exact va_asg _ _⟩
      · have hcomp := k4 _ hcs
        obtain ⟨x1, x2, y1, y2, y3⟩ := Cond.castable_spec (va_Nw.use (A := args) rfl (hV.2.2.1 _ hct rfl))
        have z1 : x1 = D.1 c9 := Option.some.inj (y1.symm.trans hfc)
        have z2 : x2 = comp := Option.some.inj (y2.symm.trans hcomp)
        subst z1; subst z2
        obtain ⟨kc9, hkc9, -⟩ := Vm.findClass_spec hcomp
        exact ⟨cell, kC, kc9, r2, (fun q h => by rw [r4] at h; cases h), by rw [r3]; exact hkC, hkc9, by rw [r3]; exact y3⟩
    · obtain ⟨-, g9, f1, -⟩ := (h2 w hltw).sm hm.2.2.1 (by decide)
      rw [f1] at hatv
      have ec := k3 h7
      subst ec
      obtain ⟨-, kS, hkS, -⟩ := (hV.2.1.2 1 _ (awTys_get (by decide))).1 0 (fun _ => .null)
      have hkS : s.vm.classes[dA 1]? = some kS := hkS
      exact ⟨_, kS, kS, hatv, (fun q h => by cases h), hkS, hkS, va_asg _ _⟩
  have hrk : refKind (eT t) = true ∧ ∀ v : Value, (v = .null ∨ ∃ x, v = .ref x) → fits (eT t) v = true := by
    match t, ht, t9 with
    | 4, _, _ => exact ⟨rfl, fun v hv => by rcases hv with rfl | ⟨x, rfl⟩ <;> rfl⟩
    | 5, _, _ => exact ⟨rfl, fun v hv => by rcases hv with rfl | ⟨x, rfl⟩ <;> rfl⟩
    | 6, _, _ => exact ⟨rfl, fun v hv => by rcases hv with rfl | ⟨x, rfl⟩ <;> rfl⟩
    | 7, _, _ => exact ⟨rfl, fun v hv => by rcases hv with rfl | ⟨x, rfl⟩ <;> rfl⟩
    | 8, _, _ => exact ⟨rfl, fun v hv => by rcases hv with rfl | ⟨x, rfl⟩ <;> rfl⟩
  have hrv : ∀ j, rfv f j = .null ∨ ∃ x, rfv f j = .ref x := fun j => by
    unfold rfv
    cases f j with
    | none => exact Or.inl rfl
    | some x => exact Or.inr ⟨x, rfl⟩
  refine va_copyr hx hb (by rw [hml]; exact k1.1.symm) hown (hts _ hq) (hts _ hq1) (hts _ hq2) (hts _ hq3) hP hD hS a9 b9 (by rw [wsl_get hlta, x2]) (by rw [wsl_get hltb, y2]) v1 v2 hrk.1 (nz _ h3) (nz _ h1) (nz _ h0) (by omega) (by omega) (fun i hi => hrk.2 _ (hrv _)) (fun i hi => ?_) (by omega) (by omega) hd fun H1 locs1 hP1 hD1 hS1 => ?_
  · have hmi := hmm i (by omega) (by omega)
    have hri := x3 (rp.toNatClampNeg + i) (by omega)
    have e7 : ((rp.toNatClampNeg + i : Nat) : Int) = rp.toInt + i := by omega
    rw [e7] at hri
    have hv9 : 0 ≤ ct a9 (rp.toInt + i) ∧ ct a9 (rp.toInt + i) < sz := by
      rcases hmi with ⟨c9, q9, hm, -⟩ | ⟨-, N9, hm⟩
      · exact ⟨hm.1, hm.2.1⟩
      · exact ⟨hm.1, hm.2.1⟩
    obtain ⟨w, ew⟩ := Int.nat_of hv9.1
    rw [ew] at hmi hri hv9
    have hwn : w < n := by have h9 : sz = (n : Int) := hn; omega
    rcases hri with ⟨z, -⟩ | ⟨-, -, z⟩
    · omega
    · obtain ⟨cv, kv, kcomp, z1, z2, z3, z4, z5⟩ := hcv w hwn hmi
      exact Or.inr ⟨_, cv, kv, kcomp, z, z1, z2, z3, z4, z5⟩
  have hrel : relE dA sA ad sz (im b9) ((acp ct a9 rp.toInt b9 rd.toInt rn.toInt) b9) (.inl (dA t, (im b9).2.1, .inr (.inr (.inr (.inr (va_cpy f g rp.toNatClampNeg rd.toNatClampNeg rn.toNatClampNeg)))))) := by
    refine Or.inr (Or.inr (Or.inr ⟨t, hb9.2.2.1, ht, t9, hsb, _, rfl, fun j hj => ?_⟩))
    simp only [acp, upA_s, va_cpy]
    by_cases hj9 : rd.toNatClampNeg ≤ j ∧ j < rd.toNatClampNeg + rn.toNatClampNeg
    · rw [if_pos (by omega), if_pos hj9]
      have h8 := x3 (rp.toNatClampNeg + (j - rd.toNatClampNeg)) (by omega)
      have h7 : ((rp.toNatClampNeg + (j - rd.toNatClampNeg) : Nat) : Int) = rp.toInt + ((j : Int) - rd.toInt) := by omega
      rw [h7] at h8
      exact h8
    · rw [if_neg (by omega), if_neg hj9]
      exact y3 j hj
  exact kk p l e R s m args below meth c D dA sA A ad0 sz0 mc ms C ad H1 locs1 cells slots ls rs hE (HR.up hn h2 hltb hP1 hD1 hrel (fun c9 _ hc9 => ⟨rfl, upA_n (by omega)⟩)) hL hst hS1 hk1 hk2
