set_option maxRecDepth 100000
theorem aw_callV {Z : aZ} {M N : aMD} {d d' kc ks kc' ks' pc n c9 i : Nat} {L : List (Option aV)} {st as : List aV} {G : aG} {a : Int} (hN : MOK N n) (hl : Cond.methodLink M.1.cls i N.1 ∈ lw_all) (hi : Cond.instanceMethod N.1 ∈ lw_all) (hs : Cond.selects N.1.cls N.1 N.1 ∈ lw_all) (hd : decode M.2.1 pc = .ok (.invokevirtual i, 3)) (ho : aob G.1 G.2.1 a c9) (hc : ∃ q, awCl[c9]? = some q ∧ q.1 = N.1.cls) (hn9 : as.length = n) (hw : stW st ≤ 8) (hdd : d' + 1 ≤ d)
    (hm : AMet N d' kc' ks' (vR a :: as) G (aK Z M d kc ks pc L st)) : AW Z M d (kc' + kc) (ks' + ks) pc L (as.reverse ++ vR a :: st) G := by
  intro p l e R s m args below meth c0 D dA sA A ad0 sz0 mc ms C ad H locs cells slots ls rst hE hH hL hst hS hk1 hk2
  obtain ⟨hx, hb, hml, hown, hts, hret, hlk, hnm, htab, hR, hV, hA⟩ := id C
  obtain ⟨r1, r2, rfl, hr1, hr2, hlen⟩ := srel.split hst
  obtain ⟨_, rs, rfl, h1, hst2⟩ := hr2
  obtain ⟨n9, E, hn, h2, hP, hD⟩ := id hH
  obtain ⟨o0, o1, o2⟩ := ho
  obtain ⟨b, rfl⟩ := Int.nat_of o0
  have hlt : b < n9 := by have h9 : G.1 = (n9 : Int) := hn; omega
  obtain rfl := vokR h1
  obtain ⟨q9, hq9, hqn⟩ := hc
  obtain ⟨fs, f1, f2, f3⟩ := (h2 b hlt).obj o2 hq9
  have he : (wsl n9 ad E)[b]? = some (ad b, .inr (c9, fs)) := by rw [wsl_get hlt, f1]
  have hrv := va_recv hV.2.1 hP hq9 he
  rw [hqn] at hrv
  obtain ⟨m0, m1, m2, m3, m4, m5⟩ := hN
  have hargs : srel sA ad G.1 (vR (b : Int) :: as) (Value.ref (ad b) :: r1.reverse) := ⟨_, _, rfl, Or.inr (Or.inl ⟨o0, o1, rfl⟩), by simpa using hr1.rev⟩
  have hmet := hm l D dA sA ad H.size _ hargs
  have hcat := hst2.cat
  obtain ⟨k0, lv, k1, k2⟩ := id hL
  rw [awWs_0 m0] at hmet
  refine aw_after (a9 := (Value.ref (ad b) :: r1.reverse).toArray) C hE hH hL hst2 hS hk1 hk2 ?_
  refine vx_runV (As := r1.reverse) (rest := rs) (C := N.1.cls) ⟨hx, hb, hml, hown, hts⟩ hmet (cwV n hts (lw_V hl hi hs m2 m1) rfl rfl rfl ⟨rfl, m3⟩ ⟨by show d' + 1 ≤ _; omega, by show 8 + (N.2.2.1 + 11) + 64 * d' ≤ _; omega⟩) ⟨aPc_blind, hrv, aPc_at C hH hS⟩ rfl (by simp [hlen, hn9]) k1.1 (by show r1 ++ _ = _; simp) (by show 2 * 0 + _ ≤ 8; omega) hd ⟨by show cells + kc' ≤ _; omega, by show slots + ks' ≤ _; omega⟩
theorem aw_callVW {Z : aZ} {M N : aMD} {d d' kc ks kc' ks' pc n c9 i : Nat} {L : List (Option aV)} {st as : List aV} {G : aG} {a : Int} (hN : MOKW N n) (hl : Cond.methodLink M.1.cls i N.1 ∈ lw_all) (hi : Cond.instanceMethod N.1 ∈ lw_all) (hs : Cond.selects N.1.cls N.1 N.1 ∈ lw_all) (hd : decode M.2.1 pc = .ok (.invokevirtual i, 3)) (ho : aob G.1 G.2.1 a c9) (hc : ∃ q, awCl[c9]? = some q ∧ q.1 = N.1.cls) (hn9 : as.length = n) (hw : stW st ≤ 8) (hdd : d' + 1 ≤ d)
    (hm : AMet N d' kc' ks' (vR a :: as) G (aK Z M d kc ks pc L st)) : AW Z M d (kc' + kc) (ks' + ks) pc L (as.reverse ++ vR a :: st) G := by
  intro p l e R s m args below meth c0 D dA sA A ad0 sz0 mc ms C ad H locs cells slots ls rst hE hH hL hst hS hk1 hk2
  obtain ⟨hx, hb, hml, hown, hts, hret, hlk, hnm, htab, hR, hV, hA⟩ := id C
  obtain ⟨r1, r2, rfl, hr1, hr2, hlen⟩ := srel.split hst
  obtain ⟨_, rs, rfl, h1, hst2⟩ := hr2
  obtain ⟨n9, E, hn, h2, hP, hD⟩ := id hH
  obtain ⟨o0, o1, o2⟩ := ho
  obtain ⟨b, rfl⟩ := Int.nat_of o0
  have hlt : b < n9 := by have h9 : G.1 = (n9 : Int) := hn; omega
  obtain rfl := vokR h1
  obtain ⟨q9, hq9, hqn⟩ := hc
  obtain ⟨fs, f1, f2, f3⟩ := (h2 b hlt).obj o2 hq9
  have he : (wsl n9 ad E)[b]? = some (ad b, .inr (c9, fs)) := by rw [wsl_get hlt, f1]
  have hrv := va_recv hV.2.1 hP hq9 he
  rw [hqn] at hrv
  obtain ⟨m0, m1, m2, m3, m4, m5⟩ := hN
  have hargs : srel sA ad G.1 (vR (b : Int) :: as) (Value.ref (ad b) :: r1.reverse) := ⟨_, _, rfl, Or.inr (Or.inl ⟨o0, o1, rfl⟩), by simpa using hr1.rev⟩
  have hmet := hm l D dA sA ad H.size _ hargs
  have hcat := hst2.cat
  obtain ⟨k0, lv, k1, k2⟩ := id hL
  rw [awWs_1 m0] at hmet
  refine aw_after (a9 := (Value.ref (ad b) :: r1.reverse).toArray) C hE hH hL hst2 hS hk1 hk2 ?_
  refine vx_runVX (hh := N.2.2.2.2) (As := r1.reverse) (rest := rs) (C := N.1.cls) ⟨hx, hb, hml, hown, hts⟩ hmet (vx_cwVW n hts (lw_VW hl hi hs m2 m1) rfl rfl rfl ⟨rfl, m3⟩ ⟨by show d' + 1 ≤ _; omega, by show 8 + (N.2.2.1 + 11) + 64 * d' ≤ _; omega⟩) ⟨aPc_blind, hrv, aPc_at C hH hS⟩ rfl (by simp [hlen, hn9]) k1.1 (by show r1 ++ _ = _; simp) (by show 2 * 0 + _ ≤ 8; omega) hd ⟨by show cells + kc' ≤ _; omega, by show slots + ks' ≤ _; omega⟩
theorem aw_callS {Z : aZ} {M N : aMD} {d d' kc ks kc' ks' pc n i : Nat} {L : List (Option aV)} {st as : List aV} {G : aG} (hN : MOK N n) (hl : Cond.methodLink M.1.cls i N.1 ∈ lw_all) (hi : Cond.static N.1 ∈ lw_all) (hd : decode M.2.1 pc = .ok (.invokestatic i, 3)) (hn9 : as.length = n) (hw : stW st ≤ 8) (hdd : d' + 1 ≤ d)
    (hm : AMet N d' kc' ks' as G (aK Z M d kc ks pc L st)) : AW Z M d (kc' + kc) (ks' + ks) pc L (as.reverse ++ st) G := by
  intro p l e R s m args below meth c0 D dA sA A ad0 sz0 mc ms C ad H locs cells slots ls rst hE hH hL hst hS hk1 hk2
  obtain ⟨hx, hb, hml, hown, hts, hret, hlk, hnm, htab, hR, hV, hA⟩ := id C
  obtain ⟨r1, rs, rfl, hr1, hst2, hlen⟩ := srel.split hst
  obtain ⟨m0, m1, m2, m3, m4, m5⟩ := hN
  have hargs : srel sA ad G.1 as r1.reverse := by simpa using hr1.rev
  have hmet := hm l D dA sA ad H.size _ hargs
  have hcat := hst2.cat
  obtain ⟨k0, lv, k1, k2⟩ := id hL
  rw [awWs_0 m0] at hmet
  refine aw_after (a9 := (r1.reverse).toArray) C hE hH hL hst2 hS hk1 hk2 ?_
  refine vx_runS (As := r1.reverse) (rest := rs) ⟨hx, hb, hml, hown, hts⟩ hmet (va_cwS n hts (lw_S hl hi m2 m1) rfl rfl rfl m3 ⟨by show d' + 1 ≤ _; omega, by show 8 + (N.2.2.1 + 11) + 64 * d' ≤ _; omega⟩) ⟨aPc_blind, aPc_at C hH hS⟩ rfl (by simp [hlen, hn9]) k1.1 (by show r1 ++ _ = _; simp) (by show 2 * 0 + _ ≤ 8; omega) hd ⟨by show cells + kc' ≤ _; omega, by show slots + ks' ≤ _; omega⟩
theorem aw_callI {Z : aZ} {M N : aMD} {d d' kc ks kc' ks' pc n i : Nat} {L : List (Option aV)} {st as : List aV} {G : aG} {a : Int} (hN : MOK N n) (hnm9 : N.1.name = "<init>") (hrt : N.2.2.2.1 = none) (hl : Cond.methodLink M.1.cls i N.1 ∈ lw_all) (hi : Cond.instanceMethod N.1 ∈ lw_all) (hd : decode M.2.1 pc = .ok (.invokespecial i, 3)) (o0 : 0 ≤ a) (hn9 : as.length = n) (hw : stW st ≤ 8) (hdd : d' + 1 ≤ d)
    (hm : AMet N d' kc' ks' (vR a :: as) G (aK Z M d kc ks pc L st)) : AW Z M d (kc' + kc) (ks' + ks) pc L (as.reverse ++ vR a :: st) G := by
  intro p l e R s m args below meth c0 D dA sA A ad0 sz0 mc ms C ad H locs cells slots ls rst hE hH hL hst hS hk1 hk2
  obtain ⟨hx, hb, hml, hown, hts, hret, hlk, hnm, htab, hR, hV, hA⟩ := id C
  obtain ⟨r1, r2, rfl, hr1, hr2, hlen⟩ := srel.split hst
  obtain ⟨_, rs, rfl, h1, hst2⟩ := hr2
  obtain ⟨rfl, o1⟩ := vokR2 h1 o0
  obtain ⟨m0, m1, m2, m3, m4, m5⟩ := hN
  have hargs : srel sA ad G.1 (vR a :: as) (Value.ref (ad a) :: r1.reverse) := ⟨_, _, rfl, Or.inr (Or.inl ⟨o0, o1, rfl⟩), by simpa using hr1.rev⟩
  have hmet := hm l D dA sA ad H.size _ hargs
  have hcat := hst2.cat
  obtain ⟨k0, lv, k1, k2⟩ := id hL
  rw [awWs_0 m0] at hmet
  refine aw_after (a9 := (Value.ref (ad a) :: r1.reverse).toArray) C hE hH hL hst2 hS hk1 hk2 ?_
  rw [hrt] at m1 hmet
  refine vx_runI (As := r1.reverse) (rest := rs) ⟨hx, hb, hml, hown, hts⟩ hmet (cwI n hts (lw_meth m1) rfl rfl rfl (hts _ m2) (hts _ hl) (hts _ hi) hnm9 m3 ⟨by show d' + 1 ≤ _; omega, by show 8 + (N.2.2.1 + 11) + 64 * d' ≤ _; omega⟩) ⟨aPc_blind, aPc_at C hH hS⟩ rfl (by simp [hlen, hn9]) k1.1 (by show r1 ++ _ = _; simp) (by show 2 * 0 + _ ≤ 8; omega) hd ⟨by show cells + kc' ≤ _; omega, by show slots + ks' ≤ _; omega⟩
theorem aw_callIN {Z : aZ} {M N : aMD} {d d' kc ks kc' ks' pc n i : Nat} {L : List (Option aV)} {st as : List aV} {G : aG} {a : Int} {host : String} (hN : MOK N n) (hnm9 : N.1.name = "<init>") (hrt : N.2.2.2.1 = none) (hl : Cond.methodLinkNest M.1.cls i N.1 host ∈ lw_tbl) (hi : Cond.instanceMethod N.1 ∈ lw_all) (hd : decode M.2.1 pc = .ok (.invokespecial i, 3)) (o0 : 0 ≤ a) (hn9 : as.length = n) (hw : stW st ≤ 8) (hdd : d' + 1 ≤ d)
    (hm : AMet N d' kc' ks' (vR a :: as) G (aK Z M d kc ks pc L st)) : AW Z M d (kc' + kc) (ks' + ks) pc L (as.reverse ++ vR a :: st) G := by
  intro p l e R s m args below meth c0 D dA sA A ad0 sz0 mc ms C ad H locs cells slots ls rst hE hH hL hst hS hk1 hk2
  obtain ⟨hx, hb, hml, hown, hts, hret, hlk, hnm, htab, hR, hV, hA⟩ := id C
  obtain ⟨r1, r2, rfl, hr1, hr2, hlen⟩ := srel.split hst
  obtain ⟨_, rs, rfl, h1, hst2⟩ := hr2
  obtain ⟨rfl, o1⟩ := vokR2 h1 o0
  obtain ⟨m0, m1, m2, m3, m4, m5⟩ := hN
  have hargs : srel sA ad G.1 (vR a :: as) (Value.ref (ad a) :: r1.reverse) := ⟨_, _, rfl, Or.inr (Or.inl ⟨o0, o1, rfl⟩), by simpa using hr1.rev⟩
  have hmet := hm l D dA sA ad H.size _ hargs
  have hcat := hst2.cat
  obtain ⟨k0, lv, k1, k2⟩ := id hL
  rw [awWs_0 m0] at hmet
  refine aw_after (a9 := (Value.ref (ad a) :: r1.reverse).toArray) C hE hH hL hst2 hS hk1 hk2 ?_
  rw [hrt] at m1 hmet
  refine vx_runIN (As := r1.reverse) (rest := rs) ⟨hx, hb, hml, hown, hts⟩ hmet ⟨va_cnB n hts (lw_meth m1) rfl rfl rfl (hV.2.2.1 _ hl rfl) (hts _ m2) m3 ⟨by show d' + 1 ≤ _; omega, by show 8 + (N.2.2.1 + 11) + 64 * d' ≤ _; omega⟩, hnm9, hts _ hi⟩ ⟨aPc_blind, aPc_at C hH hS⟩ rfl (by simp [hlen, hn9]) k1.1 (by show r1 ++ _ = _; simp) (by show 2 * 0 + _ ≤ 8; omega) hd ⟨by show cells + kc' ≤ _; omega, by show slots + ks' ≤ _; omega⟩
theorem aw_callVN {Z : aZ} {M N : aMD} {d d' kc ks kc' ks' pc n c9 i : Nat} {L : List (Option aV)} {st as : List aV} {G : aG} {a : Int} {host : String} (hN : MOK N n) (hl : Cond.methodLinkNest M.1.cls i N.1 host ∈ lw_tbl) (hi : Cond.instanceMethod N.1 ∈ lw_all) (hs : Cond.selects N.1.cls N.1 N.1 ∈ lw_all) (hd : decode M.2.1 pc = .ok (.invokevirtual i, 3)) (ho : aob G.1 G.2.1 a c9) (hc : ∃ q, awCl[c9]? = some q ∧ q.1 = N.1.cls) (hn9 : as.length = n) (hw : stW st ≤ 8) (hdd : d' + 1 ≤ d)
    (hm : AMet N d' kc' ks' (vR a :: as) G (aK Z M d kc ks pc L st)) : AW Z M d (kc' + kc) (ks' + ks) pc L (as.reverse ++ vR a :: st) G := by
  intro p l e R s m args below meth c0 D dA sA A ad0 sz0 mc ms C ad H locs cells slots ls rst hE hH hL hst hS hk1 hk2
  obtain ⟨hx, hb, hml, hown, hts, hret, hlk, hnm, htab, hR, hV, hA⟩ := id C
  obtain ⟨r1, r2, rfl, hr1, hr2, hlen⟩ := srel.split hst
  obtain ⟨_, rs, rfl, h1, hst2⟩ := hr2
  obtain ⟨n9, E, hn, h2, hP, hD⟩ := id hH
  obtain ⟨o0, o1, o2⟩ := ho
  obtain ⟨b, rfl⟩ := Int.nat_of o0
  have hlt : b < n9 := by have h9 : G.1 = (n9 : Int) := hn; omega
  obtain rfl := vokR h1
  obtain ⟨q9, hq9, hqn⟩ := hc
  obtain ⟨fs, f1, f2, f3⟩ := (h2 b hlt).obj o2 hq9
  have he : (wsl n9 ad E)[b]? = some (ad b, .inr (c9, fs)) := by rw [wsl_get hlt, f1]
  have hrv := va_recv hV.2.1 hP hq9 he
  rw [hqn] at hrv
  obtain ⟨m0, m1, m2, m3, m4, m5⟩ := hN
  have hargs : srel sA ad G.1 (vR (b : Int) :: as) (Value.ref (ad b) :: r1.reverse) := ⟨_, _, rfl, Or.inr (Or.inl ⟨o0, o1, rfl⟩), by simpa using hr1.rev⟩
  have hmet := hm l D dA sA ad H.size _ hargs
  have hcat := hst2.cat
  obtain ⟨k0, lv, k1, k2⟩ := id hL
  rw [awWs_0 m0] at hmet
  refine aw_after (a9 := (Value.ref (ad b) :: r1.reverse).toArray) C hE hH hL hst2 hS hk1 hk2 ?_
  refine vx_runVN (As := r1.reverse) (rest := rs) (C := N.1.cls) ⟨hx, hb, hml, hown, hts⟩ hmet ⟨va_cnB n hts (lw_meth m1) rfl rfl rfl (hV.2.2.1 _ hl rfl) (hts _ m2) m3 ⟨by show d' + 1 ≤ _; omega, by show 8 + (N.2.2.1 + 11) + 64 * d' ≤ _; omega⟩, hts _ hi, hts _ hs⟩ ⟨aPc_blind, hrv, aPc_at C hH hS⟩ rfl (by simp [hlen, hn9]) k1.1 (by show r1 ++ _ = _; simp) (by show 2 * 0 + _ ≤ 8; omega) hd ⟨by show cells + kc' ≤ _; omega, by show slots + ks' ≤ _; omega⟩
/-- a method without handlers meets a contract, by its walk from its entry -/
theorem AMet.of {N : aMD} {n d kc ks : Nat} {as : List aV} {G : aG} {Q : aPost} {L : List (Option aV)} (hN : MOK N n) (hL : ∀ (sA : Nat → Nat) (ad : Int → Nat) (r : List Value), srel sA ad G.1 as r → (lg_sl r).length ≤ N.2.2.1 ∧ L.length ≤ N.2.2.1 ∧ ∀ (i : Nat) (a : aV), L[i]? = some (some a) → ∃ v, (i, v) ∈ lv_args 0 r ∧ vok sA ad G.1 a v)
    (k : AW (mq Q) N d kc ks 0 L [] G) : AMet N d kc ks as G Q := by
  intro l D dA sA ad hs rargs hargs
  obtain ⟨m0, m1, m2, m3, m4, m5⟩ := hN
  rw [awWs_0 m0]
  refine vx_ofW (cc := N.2.1) (maxL := N.2.2.1) (ret := N.2.2.2.1) m4 rfl ?_
  intro p e s m args below meth c s₁ B hml htab hv
  obtain ⟨rfl, hsz, hV, hH⟩ := hv
  have hts := atoms_spec (ws := ws_ N.1 N.2.1 N.2.2.1 N.2.2.2.1) B.pre
  have hts : ∀ w ∈ lw_all, w.before _ s = true := fun w h => hts w (List.mem_cons_of_mem _ h)
  have hown : s.vm.findClass N.1.cls = some m.cls := findClass_of_methodNamed B.named
  have hin := (name_of_methodNamed B.named B.method).1
  subst hsz
  obtain ⟨l1, l2, l3⟩ := hL sA ad rargs hargs
  have hl := lv_entry rargs (n := N.2.2.1) l1
  rw [lg_entry_eq]
  have C : ACX N d p l e (headSpec (ws_ N.1 N.2.1 N.2.2.1 N.2.2.2.1) (awRm d kc ks)).room s m rargs.toArray meth c D dA sA (aFR G.1 ad s.heap.size) kc ks := by
    refine ⟨B.exec, B.bytes, hml, hown, hts, B.returns, B.notSynchronized, hin, ?_, ⟨Nat.le_refl _, Nat.le_refl _, Nat.le_refl _, Nat.le_refl _⟩, hV, fun q h => Or.inr h⟩
    rw [m0]
    show c.exceptionTable.toList = []
    cases he : c.exceptionTable.toList with
    | nil => rfl
    | cons x xs => exact (htab x (by rw [he]; exact List.mem_cons_self)).elim
  exact k p l e _ s m rargs.toArray below meth c D dA sA _ ad G.1 kc ks C ad s.heap [] 0 0 _ [] AEX.rf hH ⟨l2, _, hl, l3⟩ rfl va_S.rf (by omega) (by omega)
theorem AMet.ofW {N : aMD} {n d kc ks : Nat} {as : List aV} {G : aG} {Q : aPost} {L : List (Option aV)} (hN : MOKW N n) (hL : ∀ (sA : Nat → Nat) (ad : Int → Nat) (r : List Value), srel sA ad G.1 as r → (lg_sl r).length ≤ N.2.2.1 ∧ L.length ≤ N.2.2.1 ∧ ∀ (i : Nat) (a : aV), L[i]? = some (some a) → ∃ v, (i, v) ∈ lv_args 0 r ∧ vok sA ad G.1 a v)
    (k : AW (mq Q) N d kc ks 0 L [] G) : AMet N d kc ks as G Q := by
  intro l D dA sA ad hs rargs hargs
  obtain ⟨m0, m1, m2, m3, m4, m5⟩ := hN
  rw [awWs_1 m0]
  refine vx_ofWH (cc := N.2.1) (maxL := N.2.2.1) (ret := N.2.2.2.1) (hh := N.2.2.2.2) m4 rfl ?_
  intro p e s m args below meth c s₁ B hml hv
  obtain ⟨rfl, hsz, hV, hH⟩ := hv
  have hts0 := atoms_spec (ws := wsW_ N.1 N.2.1 N.2.2.1 N.2.2.2.1 N.2.2.2.2) B.pre
  have htab := vx_table (x := N.1) B (hts0 _ List.mem_cons_self)
  have hts : ∀ w ∈ lw_all, w.before _ s = true := fun w h => hts0 w (List.mem_cons_of_mem _ h)
  have hown : s.vm.findClass N.1.cls = some m.cls := findClass_of_methodNamed B.named
  have hin := (name_of_methodNamed B.named B.method).1
  subst hsz
  obtain ⟨l1, l2, l3⟩ := hL sA ad rargs hargs
  have hl := lv_entry rargs (n := N.2.2.1) l1
  rw [lg_entry_eq]
  have C : ACX N d p l e (headSpec (wsW_ N.1 N.2.1 N.2.2.1 N.2.2.2.1 N.2.2.2.2) (awRm d kc ks)).room s m rargs.toArray meth c D dA sA (aFR G.1 ad s.heap.size) kc ks :=
    ⟨B.exec, B.bytes, hml, hown, hts, B.returns, B.notSynchronized, hin, htab, ⟨Nat.le_refl _, Nat.le_refl _, Nat.le_refl _, Nat.le_refl _⟩, hV, fun q h => Or.inr h⟩
  exact k p l e _ s m rargs.toArray below meth c D dA sA _ ad G.1 kc ks C ad s.heap [] 0 0 _ [] AEX.rf hH ⟨l2, _, hl, l3⟩ rfl va_S.rf (by omega) (by omega)
/-- the locals at a method's entry -/
def entL : List aV → List (Option aV)
  | [] => []
  | .inl x :: l => some (vI x) :: entL l
  | .inr (.inl x) :: l => some (vL x) :: none :: entL l
  | .inr (.inr x) :: l => some (vR x) :: entL l
def entN (nL : Nat) (as : List aV) : List (Option aV) := entL as ++ List.replicate (nL - (entL as).length) none
theorem entL_ok {sA : Nat → Nat} {ad : Int → Nat} {sz : Int} : ∀ {as : List aV} {r : List Value} (k : Nat), srel sA ad sz as r → (lg_sl r).length = (entL as).length ∧ ∀ (i : Nat) (a : aV), (entL as)[i]? = some (some a) → ∃ v, (k + i, v) ∈ lv_args k r ∧ vok sA ad sz a v
  | [], _, k, h => by
    cases h
    exact ⟨rfl, fun i a hi => by simp [entL] at hi⟩
  | a :: as, _, k, ⟨v, r', e, hv, hr⟩ => by
    subst e
    have hc := vok_cat hv
    rcases a with x | x | x
    · obtain ⟨h1, h2⟩ := entL_ok (k + 1) hr
      refine ⟨by simp [lg_sl, entL, hc, ← h1], fun i a hi => ?_⟩
      cases i with
      | zero => cases hi; exact ⟨v, by simp [lv_args], hv⟩
      | succ i =>
        obtain ⟨w, g1, g2⟩ := h2 i a hi
        refine ⟨w, ?_, g2⟩
        rw [show k + (i + 1) = k + 1 + i by omega]
        simp [lv_args, hc, g1]
    · obtain ⟨h1, h2⟩ := entL_ok (k + 2) hr
      refine ⟨by simp [lg_sl, entL, hc, ← h1], fun i a hi => ?_⟩
      cases i with
      | zero => cases hi; exact ⟨v, by simp [lv_args], hv⟩
      | succ i =>
        cases i with
        | zero => simp [entL] at hi
        | succ i =>
          obtain ⟨w, g1, g2⟩ := h2 i a hi
          refine ⟨w, ?_, g2⟩
          rw [show k + (i + 1 + 1) = k + 2 + i by omega]
          simp [lv_args, hc, g1]
    · obtain ⟨h1, h2⟩ := entL_ok (k + 1) hr
      refine ⟨by simp [lg_sl, entL, hc, ← h1], fun i a hi => ?_⟩
      cases i with
      | zero => cases hi; exact ⟨v, by simp [lv_args], hv⟩
      | succ i =>
        obtain ⟨w, g1, g2⟩ := h2 i a hi
        refine ⟨w, ?_, g2⟩
        rw [show k + (i + 1) = k + 1 + i by omega]
        simp [lv_args, hc, g1]
theorem ent_ok {N : aMD} {as : List aV} {G : aG} (hl : (entL as).length ≤ N.2.2.1) (sA : Nat → Nat) (ad : Int → Nat) (r : List Value) (h : srel sA ad G.1 as r) : (lg_sl r).length ≤ N.2.2.1 ∧ (entN N.2.2.1 as).length ≤ N.2.2.1 ∧ ∀ (i : Nat) (a : aV), (entN N.2.2.1 as)[i]? = some (some a) → ∃ v, (i, v) ∈ lv_args 0 r ∧ vok sA ad G.1 a v := by
  obtain ⟨h1, h2⟩ := entL_ok 0 h
  refine ⟨by omega, by simp [entN]; omega, fun i a hi => ?_⟩
  unfold entN at hi
  by_cases hlt : i < (entL as).length
  · rw [List.getElem?_append_left hlt] at hi
    obtain ⟨v, g1, g2⟩ := h2 i a hi
    exact ⟨v, by simpa using g1, g2⟩
  · rw [List.getElem?_append_right (by omega)] at hi
    have := List.mem_of_getElem? hi
    simp at this
theorem AMet.go {N : aMD} {n d kc ks : Nat} {as : List aV} {G : aG} {Q : aPost} {L : List (Option aV)} (hN : MOK N n) (hl : (entL as).length ≤ N.2.2.1) (hL : entN N.2.2.1 as = L) (k : AW (mq Q) N d kc ks 0 L [] G) : AMet N d kc ks as G Q := AMet.of hN (ent_ok hl) (by rw [hL]; exact k)
theorem AMet.goW {N : aMD} {n d kc ks : Nat} {as : List aV} {G : aG} {Q : aPost} {L : List (Option aV)} (hN : MOKW N n) (hl : (entL as).length ≤ N.2.2.1) (hL : entN N.2.2.1 as = L) (k : AW (mq Q) N d kc ks 0 L [] G) : AMet N d kc ks as G Q := AMet.ofW hN (ent_ok hl) (by rw [hL]; exact k)
theorem aw_athrow {Z : aZ} {M : aMD} {d kc ks pc : Nat} {L : List (Option aV)} {st : List aV} {G : aG} {E : Nat} {x : Int} {c9 : Nat} (hd : decode M.2.1 pc = .ok (.athrow, 1)) (ho : aob G.1 G.2.1 x c9) (hc : ∃ q, awCl[c9]? = some q ∧ q.1 = exN E) (k : AX Z M d kc ks pc L E x G) : AW Z M d kc ks pc L (vR x :: st) G := by
  intro p l e R s m args below meth c0 D dA sA A ad0 sz0 mc ms C ad H locs cells slots ls rst hE hH hL hst hS hk1 hk2
  obtain ⟨hx, hb, hml, hown, hts, hret, hlk, hnm, htab, hR, hV, hA⟩ := id C
  obtain ⟨_, rs, rfl, h1, hst⟩ := hst
  obtain ⟨n9, E9, hn, h2, hP, hD⟩ := id hH
  try dsimp only at h2
  obtain ⟨o0, o1, o2⟩ := ho
  obtain ⟨b, rfl⟩ := Int.nat_of o0
  have hlt : b < n9 := by have h9 : G.1 = (n9 : Int) := hn; omega
  obtain rfl := vokR h1
  obtain ⟨q9, hq9, hqn⟩ := hc
  obtain ⟨fs, f1, f2, f3⟩ := (h2 b hlt).obj o2 hq9
  have hat := hP b _ (wsl_get hlt)
  rw [f1] at hat
  obtain ⟨r, r1, cell, r2, r3, r4, -⟩ := hat
  have r5 : r = q9 := Option.some.inj (r1.symm.trans hq9)
  subst r5
  refine vx_athrow hx hb hd ?_
  exact k p l e R s m args below meth c0 D dA sA A ad0 sz0 mc ms C ad H locs cells slots ls rs (ad b) cell hE hH hL hS hk1 hk2 (Or.inr (Or.inl ⟨o0, o1, rfl⟩)) r2 r4 (by rw [← hqn, r3]; exact (hV.2.1.1 c9 r hq9).2.1)
/-- no handler covers it: it leaves the method -/
theorem ax_out {Q : aPost} {M : aMD} {d kc ks pc : Nat} {L : List (Option aV)} {G : aG} {E : Nat} {x : Int} (hh : (tableOf M.2.2.2.2).all (fun z => !covers z pc) = true) (hq : Q (.inr (E, x)) G) : AX (mq Q) M d kc ks pc L E x G := by
  intro p l e R s m args below meth c0 D dA sA A ad0 sz0 mc ms C ad H locs cells slots ls rst q ce hE hH hL hS hk1 hk2 hxr hce hcv hcl
  obtain ⟨hx, hb, hml, hown, hts, hret, hlk, hnm, htab, hR, hV, hA⟩ := id C
  refine vx_out (E := exN E) (ce := ce) ?_ hlk hce hcv hcl (fun t ht hal => ⟨⟨E, x, G, ad, rfl, hxr, hq, hE, by rw [ht]; exact hH⟩, hS.F ht⟩) hS.2.2 (by omega) (by omega)
  intro z hz
  rw [htab] at hz
  have := List.all_eq_true.mp hh z hz
  rw [covers] at *; simp at this ⊢; omega
/-- caught by the handler in the n-th row; rows ahead don't take it -/
theorem ax_catch {Z : aZ} {M : aMD} {d kc ks pc : Nat} {L : List (Option aV)} {G : aG} {E : Nat} {x : Int} {name : String} {z : ExceptionTableEntry} {pre suf : List ExceptionTableEntry} (hsp : tableOf M.2.2.2.2 = pre ++ z :: suf)
    (hpre : ∀ y ∈ pre, covers y pc = false ∨ (y.catchType ≠ 0 ∧ ∃ nm : String, Cond.classLink M.1.cls y.catchType nm ∈ lw_all ∧ (exN E, nm) ∈ awNc)) (hcov : covers z pc = true) (h0 : z.catchType ≠ 0) (hlink : Cond.classLink M.1.cls z.catchType name ∈ lw_all) (hcast : Cond.castable (exN E) name ∈ lw_tbl)
    (k : AW Z M d kc ks z.handlerPc L [vR x] G) : AX Z M d kc ks pc L E x G := by
  intro p l e R s m args below meth c0 D dA sA A ad0 sz0 mc ms C ad H locs cells slots ls rst q ce hE hH hL hS hk1 hk2 hxr hce hcv hcl
  obtain ⟨hx, hb, hml, hown, hts, hret, hlk, hnm, htab, hR, hV, hA⟩ := id C
  refine vx_catch hown pre z suf (htab.trans hsp) (fun y hy => ?_) hcov h0 (hts _ hlink) (va_Nw.use rfl (hV.2.2.1 _ hcast rfl)) hce hcv hcl ?_
  · rcases hpre y hy with h | ⟨h1, nm, h2, h3⟩
    · exact Or.inl h
    · exact Or.inr ⟨h1, nm, hts _ h2, hV.2.2.2.2.1 _ h3⟩
  · exact k p l e R s m args below meth c0 D dA sA A ad0 sz0 mc ms C ad H locs cells slots ls [.ref q] hE hH hL ⟨_, _, rfl, hxr, rfl⟩ hS hk1 hk2
def dfT (t : FieldType) : Int := match t with
  | .int => 0
  | .boolean => 0
  | .long => 0
  | _ => -1
def adf (c : Nat) : Int → Int := fun i => dfT (awTy c i.toNat)
theorem dfT_ok {sA : Nat → Nat} {ad : Int → Nat} {sz : Int} {t : FieldType} (ht : t = .int ∨ t = .boolean ∨ t = .long ∨ (∃ C, t = .object C) ∨ ∃ u, t = .array u) : vkT sA ad sz t (dfT t) (defaultValue t) := by
  rcases ht with rfl | rfl | rfl | ⟨C, rfl⟩ | ⟨u, rfl⟩
  · exact ⟨0, rfl, rfl⟩
  · exact ⟨0, rfl, rfl, Or.inl rfl⟩
  · exact ⟨0, rfl, rfl⟩
  · exact Or.inl ⟨rfl, rfl⟩
  · exact Or.inl ⟨rfl, rfl⟩
def tyb (t : FieldType) : Bool := match t with
  | .int => true
  | .boolean => true
  | .long => true
  | .object _ => true
  | .array _ => true
  | _ => false
theorem tyb_ok {t : FieldType} (h : tyb t = true) : t = .int ∨ t = .boolean ∨ t = .long ∨ (∃ C, t = .object C) ∨ ∃ u, t = .array u := by
  cases t with
  | int => exact Or.inl rfl
  | boolean => exact Or.inr (Or.inl rfl)
  | long => exact Or.inr (Or.inr (Or.inl rfl))
  | object C => exact Or.inr (Or.inr (Or.inr (Or.inl ⟨_, rfl⟩)))
  | array C => exact Or.inr (Or.inr (Or.inr (Or.inr ⟨_, rfl⟩)))
  | _ => cases h
theorem awTy_b : ∀ c, c < 14 → ∀ i, i < 36 → tyb (awTy c i) = true := by decide +kernel
theorem awCl_le : ∀ (c : Nat) (q : vw_C), awCl[c]? = some q → q.2.2 ≤ 36 := by
  intro c q h
  have := (by decide : ∀ c, c < 14 → (awCl[c]?).all (fun q => decide (q.2.2 ≤ 36)) = true)
  have h1 := this c (List.getElem?_eq_some_iff.mp h).1
  rw [h] at h1
  simpa using h1
theorem aw_new {Z : aZ} {M : aMD} {d kc ks pc : Nat} {L : List (Option aV)} {st : List aV} {sz : Int} {im : Int → aIm} {ct : Int → Int → Int} {c9 i N9 : Nat} {q : vw_C} (hd : decode M.2.1 pc = .ok (.new i, 3)) (hc : awCl[c9]? = some q) (hl : Cond.classLink M.1.cls i q.1 ∈ lw_all) (hi : Cond.instantiable q.1 q.2.2 ∈ lw_all) (hini : Cond.initialized q.1 ∈ lw_all) (hN9 : q.2.2 = N9)
    (kk : AW Z M d kc ks (pc + 3) L (vR sz :: st) (sz + 1, upA im sz (c9, 0, adf c9), upA ct sz (adf c9))) : AW Z M d (kc + 1) (ks + N9) pc L st (sz, im, ct) := by
  intro p l e R s m args below meth c0 D dA sA A ad0 sz0 mc ms C ad H locs cells slots ls rst hE hH hL hst hS hk1 hk2
  obtain ⟨hx, hb, hml, hown, hts, hret, hlk, hnm, htab, hR, hV, hA⟩ := id C
  obtain ⟨n, E, hn, h2, hP, hD⟩ := id hH
  try dsimp only at h2
  have hn : sz = (n : Int) := hn
  obtain ⟨g1, g2, g3⟩ := awCl_ok c9 q hc
  have hlt14 : c9 < 14 := (List.getElem?_eq_some_iff.mp hc).1
  have hle36 := awCl_le c9 q hc
  refine va_new (ci := c9) (fs := (List.range q.2.2).map fun j => defaultValue (awTy c9 j)) hx hb hts g1 (awTy c9) g2 hown (hts _ hl) (hts _ hi) (hts _ hini) hV.2.1 hP hD hS hA (by rw [hc]) (fun j hj => by simp [vp_V, hj]) (by omega) (by omega) hd fun q9 H1 hP1 hD1 hS1 => ?_
  have hex : AEX ad sz (adp ad sz q9) (sz + 1) := adp_ex
  have hrel : relE dA sA (adp ad n q9) (sz + 1) (upA im sz (c9, 0, adf c9) n) (upA ct sz (adf c9) n) (.inr (c9, (List.range q.2.2).map fun j => defaultValue (awTy c9 j))) := by
    rw [hn, upA_s, upA_s]
    refine Or.inl ⟨q, _, hc, rfl, by simp, fun j hj => ?_⟩
    have e1 : (if (q.2.1 j).2.2.2 = true then adf c9 j else adf c9 j) = dfT (awTy c9 j) := by
      simp [adf]
    have e2 : vp_V ((List.range q.2.2).map fun j => defaultValue (awTy c9 j)) j = defaultValue (awTy c9 j) := by simp [vp_V, hj]
    show vkT _ _ _ (awTy c9 j) (if (q.2.1 j).2.2.2 = true then adf c9 j else adf c9 j) _
    rw [e1, e2]
    exact dfT_ok (tyb_ok (awTy_b c9 hlt14 j (by omega)))
  have hH1 : HR D dA sA A (adp ad n q9) (sz + 1, upA im sz (c9, 0, adf c9), upA ct sz (adf c9)) H1 := HR.push hn h2 hP1 hD1 hrel (fun b hb9 => ⟨upA_n (by omega), upA_n (by omega)⟩)
  rw [← hn] at hH1
  exact kk p l e R s m args below meth c0 D dA sA A ad0 sz0 mc ms C (adp ad sz q9) H1 locs (cells + 1) (slots + q.2.2) ls (.ref q9 :: rst) (hE.trans hex) hH1 (hL.mono hex) ⟨_, _, rfl, Or.inr (Or.inl ⟨by omega, by show sz < sz + 1; omega, by simp [adp]⟩), hst.mono hex⟩ hS1 (by omega) (by omega)
theorem aw_newarr_byte {Z : aZ} {M : aMD} {d kc ks pc : Nat} {L : List (Option aV)} {st : List aV} {sz : Int} {im : Int → aIm} {ct : Int → Int → Int} {N9 : Int} (hd : decode M.2.1 pc = .ok (.newarray .byte, 2)) (hq : Cond.arrayClass .byte ∈ lw_all) (h0 : 0 ≤ N9) (h1 : N9 ≤ 60000000)
    (kk : AW Z M d kc ks (pc + 2) L (vR sz :: st) (sz + 1, upA im sz (50 + 0, N9.toNat, fun _ => 0), upA ct sz (fun _ => 0))) : AW Z M d (kc + 1) (ks + N9.toNat) pc L (vI N9 :: st) (sz, im, ct) := by
  intro p l e R s m args below meth c0 D dA sA A ad0 sz0 mc ms C ad H locs cells slots ls rst hE hH hL hst hS hk1 hk2
  obtain ⟨hx, hb, hml, hown, hts, hret, hlk, hnm, htab, hR, hV, hA⟩ := id C
  obtain ⟨_, rs, rfl, ⟨rN, rfl, hrN⟩, hst⟩ := hst
  subst hrN
  obtain ⟨n, E, hn, h2, hP, hD⟩ := id hH
  try dsimp only at h2
  have hn : sz = (n : Int) := hn
  have hc9 := clamp_eq rN h0
  have hcl9 : rN.toNatClampNeg = rN.toInt.toNat := by omega
  refine va_newa (atype := .byte) (ty := .byte) (N' := rN.toInt.toNat) (a0 := (rN.toInt.toNat, .inl (fun _ => 0))) hx hb (hts _ hq) rfl hV.2.1 hP hD hS hA (fun cA => rfl) (fun h => by have := Int32.lt_iff_toInt_lt.mp h; rw [i32_z] at this; omega) hcl9 (by show rN.toInt.toNat * 1 ≤ _; omega) (by omega) (by omega) hd fun q9 cA H1 hK1 hP1 hD1 hS1 => ?_
  have hcA : cA = dA 0 := by
    have f1 := (hK1.2 9 (cA, .byte) rfl).2
    have f2 := (hV.2.1.2 0 (dA 0, .byte) rfl).2
    have f3 : s.vm.findClass ("[" ++ (FieldType.byte).toString) = some cA := f1
    have f4 : s.vm.findClass ("[" ++ (FieldType.byte).toString) = some (dA 0) := f2
    exact Option.some.inj (f3.symm.trans f4)
  subst hcA
  have hex : AEX ad sz (adp ad sz q9) (sz + 1) := adp_ex
  have hrel : relE dA sA (adp ad n q9) (sz + 1) (upA im sz (50 + 0, rN.toInt.toNat, fun _ => 0) n) (upA ct sz (fun _ => 0) n) (.inl (dA 0, (rN.toInt.toNat, .inl (fun _ => 0)))) := by
    rw [hn, upA_s, upA_s]
    have hb9 := i32_hi rN
    exact Or.inr (Or.inl ⟨0, rfl, by decide, by show rN.toInt.toNat < _; omega, _, rfl, fun j hj => ⟨rfl, rfl⟩⟩)
  have hH1 : HR D dA sA A (adp ad n q9) (sz + 1, upA im sz (50 + 0, rN.toInt.toNat, fun _ => 0), upA ct sz (fun _ => 0)) H1 := HR.push hn h2 hP1 hD1 hrel (fun b hb9 => ⟨upA_n (by omega), upA_n (by omega)⟩)
  rw [← hn] at hH1
  exact kk p l e R s m args below meth c0 D dA sA A ad0 sz0 mc ms C (adp ad sz q9) H1 locs (cells + 1) (slots + rN.toInt.toNat) ls (.ref q9 :: rs) (hE.trans hex) hH1 (hL.mono hex) ⟨_, _, rfl, Or.inr (Or.inl ⟨by omega, by show sz < sz + 1; omega, by simp [adp]⟩), hst.mono hex⟩ hS1 (by omega) (by omega)
theorem aw_newarr_short {Z : aZ} {M : aMD} {d kc ks pc : Nat} {L : List (Option aV)} {st : List aV} {sz : Int} {im : Int → aIm} {ct : Int → Int → Int} {N9 : Int} (hd : decode M.2.1 pc = .ok (.newarray .short, 2)) (hq : Cond.arrayClass .short ∈ lw_all) (h0 : 0 ≤ N9) (h1 : N9 ≤ 60000000)
    (kk : AW Z M d kc ks (pc + 2) L (vR sz :: st) (sz + 1, upA im sz (50 + 1, N9.toNat, fun _ => 0), upA ct sz (fun _ => 0))) : AW Z M d (kc + 1) (ks + N9.toNat) pc L (vI N9 :: st) (sz, im, ct) := by
  intro p l e R s m args below meth c0 D dA sA A ad0 sz0 mc ms C ad H locs cells slots ls rst hE hH hL hst hS hk1 hk2
  obtain ⟨hx, hb, hml, hown, hts, hret, hlk, hnm, htab, hR, hV, hA⟩ := id C
  obtain ⟨_, rs, rfl, ⟨rN, rfl, hrN⟩, hst⟩ := hst
  subst hrN
  obtain ⟨n, E, hn, h2, hP, hD⟩ := id hH
  try dsimp only at h2
  have hn : sz = (n : Int) := hn
  have hc9 := clamp_eq rN h0
  have hcl9 : rN.toNatClampNeg = rN.toInt.toNat := by omega
  refine va_newa (atype := .short) (ty := .short) (N' := rN.toInt.toNat) (a0 := (rN.toInt.toNat, .inl (fun _ => 0))) hx hb (hts _ hq) rfl hV.2.1 hP hD hS hA (fun cA => rfl) (fun h => by have := Int32.lt_iff_toInt_lt.mp h; rw [i32_z] at this; omega) hcl9 (by show rN.toInt.toNat * 2 ≤ _; omega) (by omega) (by omega) hd fun q9 cA H1 hK1 hP1 hD1 hS1 => ?_
  have hcA : cA = dA 1 := by
    have f1 := (hK1.2 9 (cA, .short) rfl).2
    have f2 := (hV.2.1.2 1 (dA 1, .short) rfl).2
    have f3 : s.vm.findClass ("[" ++ (FieldType.short).toString) = some cA := f1
    have f4 : s.vm.findClass ("[" ++ (FieldType.short).toString) = some (dA 1) := f2
    exact Option.some.inj (f3.symm.trans f4)
  subst hcA
  have hex : AEX ad sz (adp ad sz q9) (sz + 1) := adp_ex
  have hrel : relE dA sA (adp ad n q9) (sz + 1) (upA im sz (50 + 1, rN.toInt.toNat, fun _ => 0) n) (upA ct sz (fun _ => 0) n) (.inl (dA 1, (rN.toInt.toNat, .inl (fun _ => 0)))) := by
    rw [hn, upA_s, upA_s]
    have hb9 := i32_hi rN
    exact Or.inr (Or.inl ⟨1, rfl, by decide, by show rN.toInt.toNat < _; omega, _, rfl, fun j hj => ⟨rfl, rfl⟩⟩)
  have hH1 : HR D dA sA A (adp ad n q9) (sz + 1, upA im sz (50 + 1, rN.toInt.toNat, fun _ => 0), upA ct sz (fun _ => 0)) H1 := HR.push hn h2 hP1 hD1 hrel (fun b hb9 => ⟨upA_n (by omega), upA_n (by omega)⟩)
  rw [← hn] at hH1
  exact kk p l e R s m args below meth c0 D dA sA A ad0 sz0 mc ms C (adp ad sz q9) H1 locs (cells + 1) (slots + rN.toInt.toNat) ls (.ref q9 :: rs) (hE.trans hex) hH1 (hL.mono hex) ⟨_, _, rfl, Or.inr (Or.inl ⟨by omega, by show sz < sz + 1; omega, by simp [adp]⟩), hst.mono hex⟩ hS1 (by omega) (by omega)
theorem aw_newarr_int {Z : aZ} {M : aMD} {d kc ks pc : Nat} {L : List (Option aV)} {st : List aV} {sz : Int} {im : Int → aIm} {ct : Int → Int → Int} {N9 : Int} (hd : decode M.2.1 pc = .ok (.newarray .int, 2)) (hq : Cond.arrayClass .int ∈ lw_all) (h0 : 0 ≤ N9) (h1 : N9 ≤ 60000000)
    (kk : AW Z M d kc ks (pc + 2) L (vR sz :: st) (sz + 1, upA im sz (50 + 2, N9.toNat, fun _ => 0), upA ct sz (fun _ => 0))) : AW Z M d (kc + 1) (ks + N9.toNat) pc L (vI N9 :: st) (sz, im, ct) := by
  intro p l e R s m args below meth c0 D dA sA A ad0 sz0 mc ms C ad H locs cells slots ls rst hE hH hL hst hS hk1 hk2
  obtain ⟨hx, hb, hml, hown, hts, hret, hlk, hnm, htab, hR, hV, hA⟩ := id C
  obtain ⟨_, rs, rfl, ⟨rN, rfl, hrN⟩, hst⟩ := hst
  subst hrN
  obtain ⟨n, E, hn, h2, hP, hD⟩ := id hH
  try dsimp only at h2
  have hn : sz = (n : Int) := hn
  have hc9 := clamp_eq rN h0
  have hcl9 : rN.toNatClampNeg = rN.toInt.toNat := by omega
  refine va_newa (atype := .int) (ty := .int) (N' := rN.toInt.toNat) (a0 := (rN.toInt.toNat, .inl (fun _ => 0))) hx hb (hts _ hq) rfl hV.2.1 hP hD hS hA (fun cA => rfl) (fun h => by have := Int32.lt_iff_toInt_lt.mp h; rw [i32_z] at this; omega) hcl9 (by show rN.toInt.toNat * 4 ≤ _; omega) (by omega) (by omega) hd fun q9 cA H1 hK1 hP1 hD1 hS1 => ?_
  have hcA : cA = dA 2 := by
    have f1 := (hK1.2 9 (cA, .int) rfl).2
    have f2 := (hV.2.1.2 2 (dA 2, .int) rfl).2
    have f3 : s.vm.findClass ("[" ++ (FieldType.int).toString) = some cA := f1
    have f4 : s.vm.findClass ("[" ++ (FieldType.int).toString) = some (dA 2) := f2
    exact Option.some.inj (f3.symm.trans f4)
  subst hcA
  have hex : AEX ad sz (adp ad sz q9) (sz + 1) := adp_ex
  have hrel : relE dA sA (adp ad n q9) (sz + 1) (upA im sz (50 + 2, rN.toInt.toNat, fun _ => 0) n) (upA ct sz (fun _ => 0) n) (.inl (dA 2, (rN.toInt.toNat, .inl (fun _ => 0)))) := by
    rw [hn, upA_s, upA_s]
    have hb9 := i32_hi rN
    exact Or.inr (Or.inl ⟨2, rfl, by decide, by show rN.toInt.toNat < _; omega, _, rfl, fun j hj => ⟨rfl, rfl⟩⟩)
  have hH1 : HR D dA sA A (adp ad n q9) (sz + 1, upA im sz (50 + 2, rN.toInt.toNat, fun _ => 0), upA ct sz (fun _ => 0)) H1 := HR.push hn h2 hP1 hD1 hrel (fun b hb9 => ⟨upA_n (by omega), upA_n (by omega)⟩)
  rw [← hn] at hH1
  exact kk p l e R s m args below meth c0 D dA sA A ad0 sz0 mc ms C (adp ad sz q9) H1 locs (cells + 1) (slots + rN.toInt.toNat) ls (.ref q9 :: rs) (hE.trans hex) hH1 (hL.mono hex) ⟨_, _, rfl, Or.inr (Or.inl ⟨by omega, by show sz < sz + 1; omega, by simp [adp]⟩), hst.mono hex⟩ hS1 (by omega) (by omega)
theorem aw_newarr_long {Z : aZ} {M : aMD} {d kc ks pc : Nat} {L : List (Option aV)} {st : List aV} {sz : Int} {im : Int → aIm} {ct : Int → Int → Int} {N9 : Int} (hd : decode M.2.1 pc = .ok (.newarray .long, 2)) (hq : Cond.arrayClass .long ∈ lw_all) (h0 : 0 ≤ N9) (h1 : N9 ≤ 60000000)
    (kk : AW Z M d kc ks (pc + 2) L (vR sz :: st) (sz + 1, upA im sz (50 + 3, N9.toNat, fun _ => 0), upA ct sz (fun _ => 0))) : AW Z M d (kc + 1) (ks + N9.toNat) pc L (vI N9 :: st) (sz, im, ct) := by
  intro p l e R s m args below meth c0 D dA sA A ad0 sz0 mc ms C ad H locs cells slots ls rst hE hH hL hst hS hk1 hk2
  obtain ⟨hx, hb, hml, hown, hts, hret, hlk, hnm, htab, hR, hV, hA⟩ := id C
  obtain ⟨_, rs, rfl, ⟨rN, rfl, hrN⟩, hst⟩ := hst
  subst hrN
  obtain ⟨n, E, hn, h2, hP, hD⟩ := id hH
  try dsimp only at h2
  have hn : sz = (n : Int) := hn
  have hc9 := clamp_eq rN h0
  have hcl9 : rN.toNatClampNeg = rN.toInt.toNat := by omega
  refine va_newa (atype := .long) (ty := .long) (N' := rN.toInt.toNat) (a0 := (rN.toInt.toNat, .inr (.inl (fun _ => 0)))) hx hb (hts _ hq) rfl hV.2.1 hP hD hS hA (fun cA => rfl) (fun h => by have := Int32.lt_iff_toInt_lt.mp h; rw [i32_z] at this; omega) hcl9 (by show rN.toInt.toNat * 8 ≤ _; omega) (by omega) (by omega) hd fun q9 cA H1 hK1 hP1 hD1 hS1 => ?_
  have hcA : cA = dA 3 := by
    have f1 := (hK1.2 9 (cA, .long) rfl).2
    have f2 := (hV.2.1.2 3 (dA 3, .long) rfl).2
    have f3 : s.vm.findClass ("[" ++ (FieldType.long).toString) = some cA := f1
    have f4 : s.vm.findClass ("[" ++ (FieldType.long).toString) = some (dA 3) := f2
    exact Option.some.inj (f3.symm.trans f4)
  subst hcA
  have hex : AEX ad sz (adp ad sz q9) (sz + 1) := adp_ex
  have hrel : relE dA sA (adp ad n q9) (sz + 1) (upA im sz (50 + 3, rN.toInt.toNat, fun _ => 0) n) (upA ct sz (fun _ => 0) n) (.inl (dA 3, (rN.toInt.toNat, .inr (.inl (fun _ => 0))))) := by
    rw [hn, upA_s, upA_s]
    have hb9 := i32_hi rN
    exact Or.inr (Or.inr (Or.inl ⟨rfl, by show rN.toInt.toNat < _; omega, _, rfl, fun j hj => rfl⟩))
  have hH1 : HR D dA sA A (adp ad n q9) (sz + 1, upA im sz (50 + 3, rN.toInt.toNat, fun _ => 0), upA ct sz (fun _ => 0)) H1 := HR.push hn h2 hP1 hD1 hrel (fun b hb9 => ⟨upA_n (by omega), upA_n (by omega)⟩)
  rw [← hn] at hH1
  exact kk p l e R s m args below meth c0 D dA sA A ad0 sz0 mc ms C (adp ad sz q9) H1 locs (cells + 1) (slots + rN.toInt.toNat) ls (.ref q9 :: rs) (hE.trans hex) hH1 (hL.mono hex) ⟨_, _, rfl, Or.inr (Or.inl ⟨by omega, by show sz < sz + 1; omega, by simp [adp]⟩), hst.mono hex⟩ hS1 (by omega) (by omega)

