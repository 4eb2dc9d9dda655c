set_option maxRecDepth 100000
/-! AW, part 8: constant strings (printed by aw8.py) -/
theorem vokS {sA : Nat → Nat} {ad : Int → Nat} {sz : Int} {k : Nat} {v : Value} (h : vok sA ad sz (vR (-2 - (k : Int))) v) (hk : k < 48) : v = .ref (sA k) := by
  rcases h with ⟨h1, -⟩ | ⟨h1, -, -⟩ | ⟨j, h1, -, h2⟩ | ⟨h1, -⟩
  · omega
  · omega
  · have e : j = k := by omega
    subst e; exact h2
  · omega
theorem rfkS {sA : Nat → Nat} {ad : Int → Nat} {sz : Int} {k : Nat} (hk : k < 48) : vok sA ad sz (vR (-2 - (k : Int))) (.ref (sA k)) := Or.inr (Or.inr (Or.inl ⟨k, rfl, hk, rfl⟩))
def slen (k : Nat) : Int := ((awSL.getD k 0 : Nat) : Int)
def sch (k : Nat) (j : Int) : Int := ((awSB.getD k []).getD j.toNat 0).toInt
theorem slen_bd : ∀ k, k < 24 → awSL.getD k 0 < 200 := by decide
theorem aw_sval {Z : aZ} {M : aMD} {d kc ks pc : Nat} {L : List (Option aV)} {st : List aV} {G : aG} {i k : Nat} (hk : k < 24) (hd : decode M.2.1 pc = .ok (.getfield i, 3)) (hq : Cond.fieldLink M.1.cls i "java/lang/String" "value" "[B" ∈ lw_all) (kk : AW Z M d kc ks (pc + 3) L (vR (-2 - ((24 + k : Nat) : Int)) :: st) G) : AW Z M d kc ks pc L (vR (-2 - (k : Int)) :: st) G := by
  intro p l e R s m args below meth c0 D dA sA A ad0 sz0 mc ms C ad H locs cells slots ls rst hE hH hL hst hS hk1 hk2
  obtain ⟨hx, hb, hml, hown, hts, hret, hlk, hnm, htab, hR, hV, hA⟩ := id C
  obtain ⟨_, rs, rfl, h1, hst⟩ := hst
  obtain rfl := vokS h1 (by omega)
  refine vk_getf hx hb (hV.2.2.2.2.2.1.1 k hk).2.2.1 hS hown (hts _ hq) (fun _ h => h) hd ?_
  exact kk p l e R s m args below meth c0 D dA sA A ad0 sz0 mc ms C ad H locs cells slots ls (.ref (sA (24 + k)) :: rs) hE hH hL ⟨_, _, rfl, rfkS (by omega), hst⟩ hS hk1 hk2
theorem aw_scod {Z : aZ} {M : aMD} {d kc ks pc : Nat} {L : List (Option aV)} {st : List aV} {G : aG} {i k : Nat} (hk : k < 24) (hd : decode M.2.1 pc = .ok (.getfield i, 3)) (hq : Cond.fieldLink M.1.cls i "java/lang/String" "coder" "B" ∈ lw_all) (kk : AW Z M d kc ks (pc + 3) L (vI 0 :: st) G) : AW Z M d kc ks pc L (vR (-2 - (k : Int)) :: st) G := by
  intro p l e R s m args below meth c0 D dA sA A ad0 sz0 mc ms C ad H locs cells slots ls rst hE hH hL hst hS hk1 hk2
  obtain ⟨hx, hb, hml, hown, hts, hret, hlk, hnm, htab, hR, hV, hA⟩ := id C
  obtain ⟨_, rs, rfl, h1, hst⟩ := hst
  obtain rfl := vokS h1 (by omega)
  refine vk_getf hx hb (hV.2.2.2.2.2.1.1 k hk).2.1 hS hown (hts _ hq) (fun _ h => h) hd ?_
  exact kk p l e R s m args below meth c0 D dA sA A ad0 sz0 mc ms C ad H locs cells slots ls (.int 0 :: rs) hE hH hL ⟨_, _, rfl, ⟨0, rfl, rfl⟩, hst⟩ hS hk1 hk2
theorem aw_slen {Z : aZ} {M : aMD} {d kc ks pc : Nat} {L : List (Option aV)} {st : List aV} {G : aG} {k : Nat} (hk : k < 24) (hd : decode M.2.1 pc = .ok (.arraylength, 1)) (kk : AW Z M d kc ks (pc + 1) L (vI (slen k) :: st) G) : AW Z M d kc ks pc L (vR (-2 - ((24 + k : Nat) : Int)) :: st) G := by
  intro p l e R s m args below meth c0 D dA sA A ad0 sz0 mc ms C ad H locs cells slots ls rst hE hH hL hst hS hk1 hk2
  obtain ⟨hx, hb, hml, hown, hts, hret, hlk, hnm, htab, hR, hV, hA⟩ := id C
  obtain ⟨_, rs, rfl, h1, hst⟩ := hst
  obtain rfl := vokS h1 (by omega)
  have hb9 := slen_bd k hk
  refine va_tlen hx hb (hV.2.2.2.2.2.1.1 k hk).2.2.2 hS rfl hd ?_
  exact kk p l e R s m args below meth c0 D dA sA A ad0 sz0 mc ms C ad H locs cells slots ls (.int _ :: rs) hE hH hL ⟨_, _, rfl, ⟨_, rfl, (nI_toInt (by omega)).symm⟩, hst⟩ hS hk1 hk2
theorem aw_sbld {Z : aZ} {M : aMD} {d kc ks pc : Nat} {L : List (Option aV)} {st : List aV} {G : aG} {k : Nat} {j : Int} (hk : k < 24) (hd : decode M.2.1 pc = .ok (.baload, 1)) (h0 : 0 ≤ j) (hj : j < slen k) (kk : AW Z M d kc ks (pc + 1) L (vI (sch k j) :: st) G) : AW Z M d kc ks pc L (vI j :: vR (-2 - ((24 + k : Nat) : Int)) :: st) G := by
  intro p l e R s m args below meth c0 D dA sA A ad0 sz0 mc ms C ad H locs cells slots ls rst hE hH hL hst hS hk1 hk2
  obtain ⟨hx, hb, hml, hown, hts, hret, hlk, hnm, htab, hR, hV, hA⟩ := id C
  obtain ⟨_, _, rfl, ⟨ri, rfl, hri⟩, _, rs, rfl, h1, hst⟩ := hst
  subst hri
  obtain rfl := vokS h1 (by omega)
  refine va_tb hx hb (hV.2.2.2.2.2.1.1 k hk).2.2.2 hS (vpin_of h0 hj) rfl hd ?_
  exact kk p l e R s m args below meth c0 D dA sA A ad0 sz0 mc ms C ad H locs cells slots ls (.int _ :: rs) hE hH hL ⟨_, _, rfl, ⟨_, rfl, rfl⟩, hst⟩ hS hk1 hk2
theorem aw_gcomp {Z : aZ} {M : aMD} {d kc ks pc : Nat} {L : List (Option aV)} {st : List aV} {G : aG} {i : Nat} (hd : decode M.2.1 pc = .ok (.getstatic i, 3)) (hq : Cond.fieldLink M.1.cls i "java/lang/String" "COMPACT_STRINGS" "Z" ∈ lw_all) (kk : AW Z M d kc ks (pc + 3) L (vI 1 :: st) G) : AW Z M d kc ks pc L st G := by
  intro p l e R s m args below meth c0 D dA sA A ad0 sz0 mc ms C ad H locs cells slots ls rst hE hH hL hst hS hk1 hk2
  obtain ⟨hx, hb, hml, hown, hts, hret, hlk, hnm, htab, hR, hV, hA⟩ := id C
  refine va_gets hx hb hV.2.2.2.2.2.2.2.2.2.1 hS hown (hts _ hq) (fun _ h => h) hd ?_
  exact kk p l e R s m args below meth c0 D dA sA A ad0 sz0 mc ms C ad H locs cells slots ls (.int 1 :: rst) hE hH hL ⟨_, _, rfl, ⟨1, rfl, rfl⟩, hst⟩ hS hk1 hk2
theorem aw_gfmt {Z : aZ} {M : aMD} {d kc ks pc : Nat} {L : List (Option aV)} {st : List aV} {G : aG} {i : Nat} (hd : decode M.2.1 pc = .ok (.getstatic i, 3)) (hq : Cond.fieldLink M.1.cls i "jdk/internal/util/Preconditions" "SIOOBE_FORMATTER" "Ljava/util/function/BiFunction;" ∈ lw_all) (kk : AW Z M d kc ks (pc + 3) L (vR (-1000) :: st) G) : AW Z M d kc ks pc L st G := by
  intro p l e R s m args below meth c0 D dA sA A ad0 sz0 mc ms C ad H locs cells slots ls rst hE hH hL hst hS hk1 hk2
  obtain ⟨hx, hb, hml, hown, hts, hret, hlk, hnm, htab, hR, hV, hA⟩ := id C
  rcases hV.2.2.2.2.2.2.2.2.2.2.1 with hZ | ⟨t, hZ⟩
  · refine va_gets hx hb hZ hS hown (hts _ hq) (fun _ h => h) hd ?_
    exact kk p l e R s m args below meth c0 D dA sA A ad0 sz0 mc ms C ad H locs cells slots ls (.null :: rst) hE hH hL ⟨_, _, rfl, Or.inr (Or.inr (Or.inr ⟨rfl, Or.inl rfl⟩)), hst⟩ hS hk1 hk2
  · refine va_gets hx hb hZ hS hown (hts _ hq) (fun _ h => h) hd ?_
    exact kk p l e R s m args below meth c0 D dA sA A ad0 sz0 mc ms C ad H locs cells slots ls (.ref t :: rst) hE hH hL ⟨_, _, rfl, Or.inr (Or.inr (Or.inr ⟨rfl, Or.inr ⟨t, rfl⟩⟩)), hst⟩ hS hk1 hk2
theorem aw_nreturn {M : aMD} {d kc ks pc : Nat} {L : List (Option aV)} {Q : aPost} {G : aG} {x : Int} {rt : FieldType} (hd : decode M.2.1 pc = .ok (.ireturn, 1)) (hr : M.2.2.2.1 = some rt) (hx01 : ∀ r : Int32, x = r.toInt → narrow rt (.int r) = .int r) (hq : Q (.inl (some (vI x))) G) : AW (mq Q) M d kc ks pc L [vI x] G := by
  intro p l e R s m args below meth c0 D dA sA A ad0 sz0 mc ms C ad H locs cells slots ls rst hE hH hL hst hS hk1 hk2
  obtain ⟨hx, hb, hml, hown, hts, hret, hlk, hnm, htab, hR, hV, hA⟩ := id C
  obtain ⟨_, rs, rfl, ⟨r, rfl, h2⟩, hst⟩ := hst
  cases hst
  refine W.widen (k := mc) (n := ms) (by omega) (by omega) (vx_ret ?_)
  exact W.zret hx hb (hret.trans hr) (hx01 r h2) (fun t ht hW => ⟨⟨_, some (vI x), G, ad, rfl, ⟨_, rfl, r, rfl, h2⟩, hq, hE, by rw [ht]; exact hH⟩, hS.F ht⟩) hS.2.2 hd hlk
theorem nar_b {x : Int} (h : -128 ≤ x ∧ x < 128) (r : Int32) (e : x = r.toInt) : narrow .byte (.int r) = .int r := by
  have : r.toInt8.toInt32 = r := Int32.toInt_inj.mp (by rw [Int8.toInt_toInt32, Int32.toInt_toInt8]; exact w8_id (by omega) (by omega))
  show Value.int (r.toInt8.toInt32) = _
  rw [this]
theorem nar_c {x : Int} (h : 0 ≤ x ∧ x < 128) (r : Int32) (e : x = r.toInt) : narrow .char (.int r) = .int r := by
  have e2 : r = Int32.ofInt x := by rw [e, i32_ofToInt]
  obtain ⟨n, hn⟩ := Int.nat_of h.1
  subst hn
  have : n < 128 := by omega
  rw [e2]
  have key : ∀ n : Nat, n < 128 → narrow .char (.int (Int32.ofInt (n : Int))) = .int (Int32.ofInt (n : Int)) := by decide +kernel
  exact key n this
theorem aw_callVs {Z : aZ} {M N : aMD} {d d' kc ks kc' ks' pc n i k : Nat} {L : List (Option aV)} {st as : List aV} {G : aG} (hN : MOK N n) (hk9 : k < 24) (hl : Cond.methodLink M.1.cls i N.1 ∈ lw_all) (hi : Cond.instanceMethod N.1 ∈ lw_all) (hs : Cond.selects N.1.cls N.1 N.1 ∈ lw_all) (hcs : N.1.cls = "java/lang/String") (hd : decode M.2.1 pc = .ok (.invokevirtual i, 3)) (hn9 : as.length = n) (hw : stW st ≤ 8) (hdd : d' + 1 ≤ d)
    (hm : AMet N d' kc' ks' (vR (-2 - (k : Int)) :: as) G (aK Z M d kc ks pc L st)) : AW Z M d (kc' + kc) (ks' + ks) pc L (as.reverse ++ vR (-2 - (k : Int)) :: st) G := by
  intro p l e R s m args below meth c0 D dA sA A ad0 sz0 mc ms C ad H locs cells slots ls rst hE hH hL hst hS hk1 hk2
  obtain ⟨hx, hb, hml, hown, hts, hret, hlk, hnm, htab, hR, hV, hA⟩ := id C
  obtain ⟨r1, r2, rfl, hr1, hr2, hlen⟩ := srel.split hst
  obtain ⟨_, rs, rfl, h1, hst2⟩ := hr2
  obtain rfl := vokS h1 (by omega)
  have hrv := vk_recv hV.2.2.2.2.2.1 hk9 hS
  rw [← hcs] at hrv
  obtain ⟨m0, m1, m2, m3, m4, m5⟩ := hN
  have hargs : srel sA ad G.1 (vR (-2 - (k : Int)) :: as) (Value.ref (sA k) :: r1.reverse) := ⟨_, _, rfl, rfkS (by omega), by simpa using hr1.rev⟩
  have hmet := hm l D dA sA ad H.size _ hargs
  have hcat := hst2.cat
  obtain ⟨k0, lv, k1, k2⟩ := id hL
  rw [awWs_0 m0] at hmet
  refine aw_after (a9 := (Value.ref (sA k) :: r1.reverse).toArray) C hE hH hL hst2 hS hk1 hk2 ?_
  refine vx_runV (As := r1.reverse) (rest := rs) (C := N.1.cls) ⟨hx, hb, hml, hown, hts⟩ hmet (cwV n hts (lw_V hl hi hs m2 m1) rfl rfl rfl ⟨rfl, m3⟩ ⟨by show d' + 1 ≤ _; omega, by show 8 + (N.2.2.1 + 11) + 64 * d' ≤ _; omega⟩) ⟨aPc_blind, hrv, aPc_at C hH hS⟩ rfl (by simp [hlen, hn9]) k1.1 (by show r1 ++ _ = _; simp) (by show 2 * 0 + _ ≤ 8; omega) hd ⟨by show cells + kc' ≤ _; omega, by show slots + ks' ≤ _; omega⟩
