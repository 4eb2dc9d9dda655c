set_option maxRecDepth 100000
/-! AW, part 7: an array of arrays -/
theorem outer_arrV (c : ClassId) (N h0 : Nat) : ∀ i, Jvm.Free.Multi.outerC c N h0 i = arrV c N (fun j => if j < i then .ref (h0 + 1 + j) else .null)
  | 0 => by
    show ({ cls := c, slots := Array.replicate N .null, vm := .none } : Cell) = _
    rw [arrV_new]
    simp
  | i + 1 => by
    show (Jvm.Free.Multi.outerC c N h0 i).setSlot i (.ref (h0 + 1 + i)) = _
    rw [outer_arrV c N h0 i, arrV_store]
    congr 1
    funext j
    unfold updV
    by_cases h : j = i
    · subst h; simp
    · by_cases h2 : j < i
      · have h3 : j < i + 1 := by omega
        simp [h, h2, h3]
      · have h3 : ¬ j < i + 1 := by omega
        simp [h, h2, h3]
section VQM
variable {p : Program} {l : Launch} {e : Env} {R : Room} {s : State} {m : MethodId} {args : Array Value} {below : List Frame} {meth : Method} {c : Code} {H : Heap} {locs : List Loc} {cells slots : Nat} {Q : State → Prop}
variable {cc : ByteArray} {pc : Nat} {ls : Array Slot} {rest : List Value}
theorem vq_multi (hexec : p.tables.exec = Jvm.exec) (hb : c.code = cc) {own : String} {index : Nat} (hown : s.vm.findClass own = some m.cls) (hclink : (Cond.classLink own index "[[S").before args s = true) (hover : AO (.array .short) s) (harr : (Cond.arrayClass .short).before args s = true)
    {n : Int32} {N : Nat} (hn : ¬ n < 0) (hN : n.toNatClampNeg = N) (hN12 : N ≤ 1000) (hcells : cells + (1 + N) ≤ R.cells) (hslots : slots + 17 * N ≤ R.slots) (hdg : decode cc pc = .ok (.multianewarray index 2, 4))
    (kk : ∀ (cA comp : ClassId) (H1 : Heap), s.vm.findClass "[[S" = some cA → s.vm.findClass "[S" = some comp → H1.size = H.size + 1 + N → (∀ q : Nat, q < H.size → H1[q]? = H[q]?) → H1[H.size]? = some (arrV cA N (fun j => va_rf (some (H.size + 1 + j)))) → (∀ j, j < N → H1[H.size + 1 + j]? = some (arrV comp 16 (fun _ => .int 0))) →
      W p l e R s m args below meth c H1 locs (cells + 1 + N) (slots + 17 * N) Q (F0 m (pc + 4) ls (.ref H.size :: rest))) : W p l e R s m args below meth c H locs cells slots Q (F0 m pc ls (.int 16 :: .int n :: rest)) := by
  intro T hT X
  have e1 : "[" ++ (FieldType.array .short).toString = "[[S" := by first | rfl | decide +kernel
  have e2 : (FieldType.array .short).toString = "[S" := by first | rfl | decide +kernel
  have e16 : (16 : Int32).toNatClampNeg = 16 := by decide
  subst hN
  obtain ⟨vm₁, cA, comp, hW, hfA, hfC, hO, hI, X1, step⟩ := X.multianewarray2F hexec (ty := .short) hown (by rw [e1]; exact hclink) hover harr (g := F0 m pc ls (.int 16 :: .int n :: rest)) rfl (by rw [hb]; exact hdg) (n := n) (k := 16) (rest := rest) rfl hn (by decide) (by omega) (by decide) (by decide) (by decide) (by decide) hcells (by rw [e16]; omega)
  rw [e1] at hfA
  rw [e2] at hfC
  rw [e16] at X1 step
  rw [show slots + n.toNatClampNeg + n.toNatClampNeg * 16 = slots + 17 * n.toNatClampNeg by omega] at X1
  have hTs : (T.setVm vm₁).heap = H := hT
  obtain ⟨f1, f2, -, -⟩ := Jvm.Free.Multi.fill_facts (T.setVm vm₁) cA comp n.toNatClampNeg 16 (defaultValue .short) n.toNatClampNeg
  rw [hTs] at f1 f2
  have f3 : ∀ q : Nat, q < H.size → (Jvm.Free.Multi.fill (T.setVm vm₁) cA comp n.toNatClampNeg 16 (defaultValue .short) n.toNatClampNeg).heap[q]? = H[q]? := fun q hq => by
    rw [Jvm.Free.Multi.fill_old _ _ _ _ _ _ (by rw [hTs]; exact hq), hTs]
  have f4 : ∀ j, j < n.toNatClampNeg → (Jvm.Free.Multi.fill (T.setVm vm₁) cA comp n.toNatClampNeg 16 (defaultValue .short) n.toNatClampNeg).heap[H.size + 1 + j]? = some (arrV comp 16 (fun _ => .int 0)) := fun j hj => by
    have h := Jvm.Free.Multi.fill_inner (T.setVm vm₁) cA comp n.toNatClampNeg 16 (defaultValue .short) n.toNatClampNeg j hj
    rw [hTs] at h
    rw [h, ← arrV_new]
    rfl
  have f5 : (Jvm.Free.Multi.fill (T.setVm vm₁) cA comp n.toNatClampNeg 16 (defaultValue .short) n.toNatClampNeg).heap[H.size]? = some (arrV cA n.toNatClampNeg (fun j => va_rf (some (H.size + 1 + j)))) := by
    rw [f2, outer_arrV]
    congr 1
    apply congrArg (fun z => ({ cls := cA, slots := z, vm := .none } : Cell))
    apply Array.ext
    · simp
    · intro j h1 h2
      have h3 : j < n.toNatClampNeg := by simpa using h1
      simp [h3, va_rf]
  obtain ⟨t, a1, b1⟩ := kk cA comp _ hfA hfC f1 f3 f5 f4 _ rfl X1
  refine ⟨t, step t ?_, b1⟩
  have hTh : T.heap.size = H.size := by rw [hT]
  rw [hTh]
  exact a1
end VQM
def adm (ad : Int → Nat) (n : Int) (h : Nat) : Int → Nat := fun a => if a < n then ad a else h + (a - n).toNat
def imm (im : Int → aIm) (n N : Int) : Int → aIm := fun a => if a = n then (57, N.toNat, fun _ => 0) else if n < a ∧ a ≤ n + N then (51, 16, fun _ => 0) else im a
def ctm (ct : Int → Int → Int) (n N : Int) : Int → Int → Int := fun a => if a = n then (fun j => n + 1 + j) else if n < a ∧ a ≤ n + N then (fun _ => 0) else ct a
theorem aw_multi {Z : aZ} {M : aMD} {d kc ks pc : Nat} {L : List (Option aV)} {st : List aV} {sz : Int} {im : Int → aIm} {ct : Int → Int → Int} {N9 : Int} {i : Nat} (hd : decode M.2.1 pc = .ok (.multianewarray i 2, 4)) (hl : Cond.classLink M.1.cls i "[[S" ∈ lw_all) (hq : Cond.arrayClass .short ∈ lw_all) (h0 : 0 ≤ N9) (h1 : N9 ≤ 1000)
    (kk : AW Z M d kc ks (pc + 4) L (vR sz :: st) (sz + 1 + N9, imm im sz N9, ctm ct sz N9)) : AW Z M d (kc + (1 + N9.toNat)) (ks + 17 * N9.toNat) pc L (vI 16 :: vI N9 :: st) (sz, im, ct) := by
  intro p l e R s m args below meth c0 D dA sA A ad0 sz0 mc ms C ad H locs cells slots ls rst hE hH hL hst hS hk1 hk2
  obtain ⟨hx, hb, hml, hown, hts, hret, hlk, hnm, htab, hR, hV, hA⟩ := id C
  obtain ⟨_, rs0, rfl, ⟨rK, rfl, hrK⟩, _, rs, rfl, ⟨rN, rfl, hrN⟩, hst⟩ := hst
  have hrK2 : rK = 16 := Int32.toInt_inj.mp (by rw [← hrK]; decide)
  subst hrK2
  subst hrN
  obtain ⟨n, E, hn, h2, hP, hD⟩ := id hH
  try dsimp only at h2
  have hn : sz = (n : Int) := hn
  have hc9 := clamp_eq rN h0
  have hcl9 : rN.toNatClampNeg = rN.toInt.toNat := by omega
  refine vq_multi (N := rN.toInt.toNat) hx hb hown (hts _ hl) (hV.2.2.2.1 _ (by decide)) (hts _ hq) (fun h => by have := Int32.lt_iff_toInt_lt.mp h; rw [i32_z] at this; omega) hcl9 (by omega) (by omega) (by omega) hd fun cA comp H1 k1 k2 k3 k4 k5 k6 => ?_
  have hcA : cA = dA 7 := by
    have f2 : s.vm.findClass ("[" ++ (FieldType.array .short).toString) = some (dA 7) := (hV.2.1.2 7 _ (awTys_get (by decide))).2
    have e1 : "[" ++ (FieldType.array .short).toString = "[[S" := by first | rfl | decide +kernel
    rw [e1] at f2
    exact Option.some.inj (k1.symm.trans f2)
  have hcB : comp = dA 1 := by
    have f2 : s.vm.findClass ("[" ++ (FieldType.short).toString) = some (dA 1) := (hV.2.1.2 1 _ (awTys_get (by decide))).2
    have e1 : "[" ++ (FieldType.short).toString = "[S" := by first | rfl | decide +kernel
    rw [e1] at f2
    exact Option.some.inj (k2.symm.trans f2)
  subst hcA; subst hcB
  subst hn
  generalize hNN : rN.toInt.toNat = N at *
  have hNi : rN.toInt = (N : Int) := by omega
  rw [hNi] at kk
  have hex : AEX ad n (adm ad n H.size) (n + 1 + N) := ⟨by omega, fun a ha => if_pos ha⟩
  have adS : ∀ j : Nat, adm ad n H.size ((n + j : Nat) : Int) = H.size + j := fun j => by
    unfold adm
    rw [if_neg (by omega)]
    omega
  have adO : ∀ j : Nat, j < n → adm ad n H.size (j : Int) = ad j := fun j hj => if_pos (by omega)
  have hold : ∀ j : Nat, j < n → ad j < H.size := fun j hj => (hP j _ (wsl_get hj)).lt
  have hnew : ∀ j : Nat, j ≤ N → A (H.size + j) := fun j _ => hA _ (Nat.le_trans hS.1 (by omega))
  let E1 : Nat → va_E := fun a => if a < n then E a else if a = n then .inl (dA 7, N, .inr (.inr (.inr (.inr (fun j => some (H.size + 1 + j)))))) else .inl (dA 1, 16, .inl (fun _ => 0))
  have hH1 : HR D dA sA A (adm ad n H.size) ((n : Int) + 1 + N, imm im n N, ctm ct n N) H1 := by
    refine ⟨n + 1 + N, E1, by show (n : Int) + 1 + N = _; omega, fun a ha => ?_, fun k q hk => ?_, fun i j pq q hi hj he => ?_, fun k q hk => ?_⟩
    · show relE dA sA _ _ (imm im n N a) (ctm ct n N a) (E1 a)
      by_cases a1 : a < n
      · have z1 : E1 a = E a := if_pos a1
        have z2 : imm im n N a = im a := by unfold imm; rw [if_neg (by omega), if_neg (by omega)]
        have z3 : ctm ct n N a = ct a := by unfold ctm; rw [if_neg (by omega), if_neg (by omega)]
        rw [z1, z2, z3]
        exact (h2 a a1).mono hex
      · by_cases a2 : a = n
        · subst a2
          have z1 : E1 a = .inl (dA 7, N, .inr (.inr (.inr (.inr (fun j => some (H.size + 1 + j)))))) := by show (if a < a then _ else _) = _; rw [if_neg a1, if_pos rfl]
          have z2 : imm im a N a = (57, N, fun _ => 0) := by unfold imm; rw [if_pos rfl]; simp
          have z3 : ctm ct a N a = fun j => (a : Int) + 1 + j := if_pos rfl
          rw [z1, z2, z3]
          refine Or.inr (Or.inr (Or.inr ⟨7, rfl, by decide, by decide, by show N < _; omega, _, rfl, fun j hj => ?_⟩))
          have hj2 : j < N := hj
          show refO _ _ ((a : Int) + 1 + j) (some (H.size + 1 + j))
          have := adS (1 + j)
          rw [show (a : Int) + 1 + j = ((a + (1 + j) : Nat) : Int) by omega]
          refine Or.inr ⟨by omega, by omega, ?_⟩
          rw [this, Nat.add_assoc]
        · have z1 : E1 a = .inl (dA 1, 16, .inl (fun _ => 0)) := by show (if a < n then _ else if a = n then _ else _) = _; rw [if_neg a1, if_neg a2]
          have z2 : imm im n N a = (51, 16, fun _ => 0) := by unfold imm; rw [if_neg (by omega), if_pos (by omega)]
          have z3 : ctm ct n N a = fun _ => 0 := by unfold ctm; rw [if_neg (by omega), if_pos (by omega)]
          rw [z1, z2, z3]
          exact Or.inr (Or.inl ⟨1, rfl, by decide, by decide, _, rfl, fun j hj => ⟨rfl, rfl⟩⟩)
    · obtain ⟨b1, rfl⟩ := wsl_get' hk
      by_cases a1 : k < n
      · have z1 : E1 k = E k := if_pos a1
        rw [adO k a1, z1]
        exact (hP k _ (wsl_get a1)).kept (k4 _ (hold k a1))
      · by_cases a2 : k = n
        · subst a2
          have z1 : E1 k = .inl (dA 7, N, .inr (.inr (.inr (.inr (fun j => some (H.size + 1 + j)))))) := by show (if k < k then _ else _) = _; rw [if_neg a1, if_pos rfl]
          have z2 := adS 0
          rw [Nat.add_zero, Nat.add_zero] at z2
          rw [z1, z2]
          exact k5
        · have z1 : E1 k = .inl (dA 1, 16, .inl (fun _ => 0)) := by show (if k < n then _ else if k = n then _ else _) = _; rw [if_neg a1, if_neg a2]
          obtain ⟨j, rfl⟩ : ∃ j, k = n + (1 + j) := ⟨k - n - 1, by omega⟩
          rw [z1, adS, ← Nat.add_assoc]
          exact k6 j (by omega)
    · obtain ⟨b1, rfl⟩ := wsl_get' hi
      obtain ⟨b2, rfl⟩ := wsl_get' hj
      have he : adm ad n H.size i = adm ad n H.size j := he
      by_cases a1 : i < n
      · rw [adO i a1] at he
        by_cases a2 : j < n
        · rw [adO j a2] at he
          exact hD.1 i j _ _ (wsl_get a1) (wsl_get a2) he
        · obtain ⟨j', rfl⟩ : ∃ j', j = n + j' := ⟨j - n, by omega⟩
          rw [adS] at he
          have := hold i a1
          omega
      · obtain ⟨i', rfl⟩ : ∃ i', i = n + i' := ⟨i - n, by omega⟩
        rw [adS] at he
        by_cases a2 : j < n
        · rw [adO j a2] at he
          have := hold j a2
          omega
        · obtain ⟨j', rfl⟩ : ∃ j', j = n + j' := ⟨j - n, by omega⟩
          rw [adS] at he
          omega
    · obtain ⟨b1, rfl⟩ := wsl_get' hk
      by_cases a1 : k < n
      · show A (adm ad n H.size k)
        rw [adO k a1]
        exact hD.2 k _ (wsl_get a1)
      · obtain ⟨j', rfl⟩ : ∃ j', k = n + j' := ⟨k - n, by omega⟩
        show A (adm ad n H.size _)
        rw [adS]
        exact hnew j' (by omega)
  have hS1 : va_S A s.heap H1 locs := ⟨by have := hS.1; omega, fun q h5 h6 => (k4 q (Nat.lt_of_lt_of_le h5 hS.1)).trans (hS.2.1 q h5 h6), hS.2.2⟩
  refine kk p l e R s m args below meth c0 D dA sA A ad0 sz0 mc ms C (adm ad n H.size) H1 locs (cells + 1 + N) (slots + 17 * N) ls (.ref H.size :: rs) (hE.trans hex) hH1 (hL.mono hex) ⟨_, _, rfl, Or.inr (Or.inl ⟨by omega, by show (n : Int) < n + 1 + N; omega, ?_⟩), hst.mono hex⟩ hS1 (by omega) (by omega)
  have z2 := adS 0
  rw [Nat.add_zero, Nat.add_zero] at z2
  rw [z2]
