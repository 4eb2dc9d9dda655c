set_option maxRecDepth 100000
theorem aw_ret {M : aMD} {d kc ks pc : Nat} {L : List (Option aV)} {Q : aPost} {G : aG} (hd : decode M.2.1 pc = .ok (.return_, 1)) (hr : M.2.2.2.1 = none) (hq : Q (.inl none) G) : AW (mq Q) M d kc ks pc L [] G := by
  intro p l e R s m args below meth c0 D dA sA A ad0 sz0 mc ms C ad H locs cells slots ls rst hE hH hL hst hS hk1 hk2
  obtain ⟨hx, hb, hml, hown, hts, hret, hlk, hnm, htab, hR, hV, hA⟩ := id C
  cases hst
  refine W.widen (k := mc) (n := ms) (by omega) (by omega) (vx_ret ?_)
  exact W.vret hx hb (hret.trans hr) (fun t ht hW => ⟨⟨none, none, G, ad, rfl, rfl, hq, hE, by rw [ht]; exact hH⟩, hS.F ht⟩) hS.2.2 hd hlk
theorem aw_ireturn {M : aMD} {d kc ks pc : Nat} {L : List (Option aV)} {Q : aPost} {G : aG} {x : Int} (hd : decode M.2.1 pc = .ok (.ireturn, 1)) (hr : M.2.2.2.1 = some .int) (hq : Q (.inl (some (vI x))) G) : AW (mq Q) M d kc ks pc L [vI x] G := by
  intro p l e R s m args below meth c0 D dA sA A ad0 sz0 mc ms C ad H locs cells slots ls rst hE hH hL hst hS hk1 hk2
  obtain ⟨hx, hb, hml, hown, hts, hret, hlk, hnm, htab, hR, hV, hA⟩ := id C
  obtain ⟨_, rs, rfl, ⟨r, rfl, h2⟩, hst⟩ := hst
  cases hst
  refine W.widen (k := mc) (n := ms) (by omega) (by omega) (vx_ret ?_)
  exact W.iret hx hb (hret.trans hr) (fun t ht hW => ⟨⟨_, some (vI x), G, ad, rfl, ⟨_, rfl, r, rfl, h2⟩, hq, hE, by rw [ht]; exact hH⟩, hS.F ht⟩) hS.2.2 hd hlk
theorem aw_lreturn {M : aMD} {d kc ks pc : Nat} {L : List (Option aV)} {Q : aPost} {G : aG} {x : Int} (hd : decode M.2.1 pc = .ok (.lreturn, 1)) (hr : M.2.2.2.1 = some .long) (hq : Q (.inl (some (vL x))) G) : AW (mq Q) M d kc ks pc L [vL x] G := by
  intro p l e R s m args below meth c0 D dA sA A ad0 sz0 mc ms C ad H locs cells slots ls rst hE hH hL hst hS hk1 hk2
  obtain ⟨hx, hb, hml, hown, hts, hret, hlk, hnm, htab, hR, hV, hA⟩ := id C
  obtain ⟨_, rs, rfl, ⟨r, rfl, h2⟩, hst⟩ := hst
  cases hst
  refine W.widen (k := mc) (n := ms) (by omega) (by omega) (vx_ret ?_)
  exact W.lret hx hb (hret.trans hr) (fun t ht hW => ⟨⟨_, some (vL x), G, ad, rfl, ⟨_, rfl, r, rfl, h2⟩, hq, hE, by rw [ht]; exact hH⟩, hS.F ht⟩) hS.2.2 hd hlk
theorem aw_zreturn {M : aMD} {d kc ks pc : Nat} {L : List (Option aV)} {Q : aPost} {G : aG} {x : Int} (hd : decode M.2.1 pc = .ok (.ireturn, 1)) (hr : M.2.2.2.1 = some .boolean) (hx01 : x = 0 ∨ x = 1) (hq : Q (.inl (some (vI x))) G) : AW (mq Q) M d kc ks pc L [vI x] G := by
  intro p l e R s m args below meth c0 D dA sA A ad0 sz0 mc ms C ad H locs cells slots ls rst hE hH hL hst hS hk1 hk2
  obtain ⟨hx, hb, hml, hown, hts, hret, hlk, hnm, htab, hR, hV, hA⟩ := id C
  obtain ⟨_, rs, rfl, ⟨r, rfl, h2⟩, hst⟩ := hst
  cases hst
  refine W.widen (k := mc) (n := ms) (by omega) (by omega) (vx_ret ?_)
  have h01 : r = 0 ∨ r = 1 := by
    rcases hx01 with h3 | h3
    · exact Or.inl (Int32.toInt_inj.mp (by rw [← h2, h3]; rfl))
    · exact Or.inr (Int32.toInt_inj.mp (by rw [← h2, h3]; rfl))
  exact W.zret hx hb (hret.trans hr) (by rcases h01 with rfl | rfl <;> rfl) (fun t ht hW => ⟨⟨_, some (vI x), G, ad, rfl, ⟨_, rfl, r, rfl, h2⟩, hq, hE, by rw [ht]; exact hH⟩, hS.F ht⟩) hS.2.2 hd hlk
theorem aw_areturn {M : aMD} {d kc ks pc : Nat} {L : List (Option aV)} {Q : aPost} {G : aG} {x : Int} {rt : FieldType} (hd : decode M.2.1 pc = .ok (.areturn, 1)) (hr : M.2.2.2.1 = some rt) (hrt : (∃ n, rt = .object n) ∨ ∃ t, rt = .array t) (hq : Q (.inl (some (vR x))) G) : AW (mq Q) M d kc ks pc L [vR x] G := by
  intro p l e R s m args below meth c0 D dA sA A ad0 sz0 mc ms C ad H locs cells slots ls rst hE hH hL hst hS hk1 hk2
  obtain ⟨hx, hb, hml, hown, hts, hret, hlk, hnm, htab, hR, hV, hA⟩ := id C
  obtain ⟨_, rs, rfl, h2, hst⟩ := hst
  cases hst
  refine W.widen (k := mc) (n := ms) (by omega) (by omega) (vx_ret ?_)
  exact W.aret hx hb (hret.trans hr) hrt (rfk_cases h2) (fun t ht hW => ⟨⟨_, some (vR x), G, ad, rfl, ⟨_, rfl, h2⟩, hq, hE, by rw [ht]; exact hH⟩, hS.F ht⟩) hS.2.2 hd hlk
theorem aw_objInit {Z : aZ} {M : aMD} {d kc ks pc : Nat} {L : List (Option aV)} {st : List aV} {G : aG} {i : Nat} {x : Int} (hd : decode M.2.1 pc = .ok (.invokespecial i, 3)) (hq : Cond.methodLink M.1.cls i Lib.objectInit ∈ lw_all) (hq1 : Cond.instanceMethod Lib.objectInit ∈ lw_all) (hq2 : Cond.code Lib.objectInit ⟨#[0xb1]⟩ 1 none ∈ lw_all) (h0 : 0 ≤ x) (hdd : 1 ≤ d) (hw : stW st ≤ 8) (kk : AW Z M d kc ks (pc + 3) L st G) : AW Z M d kc ks pc L (vR x :: st) G := by
  intro p l e R s m args below meth c0 D dA sA A ad0 sz0 mc ms C ad H locs cells slots ls rst hE hH hL hst hS hk1 hk2
  obtain ⟨hx, hb, hml, hown, hts, hret, hlk, hnm, htab, hR, hV, hA⟩ := id C
  obtain ⟨_, rs, rfl, h1, hst⟩ := hst
  obtain ⟨rfl, -⟩ := vokR2 h1 h0
  have hcat := hst.cat
  obtain ⟨k0, lv, k1, k2⟩ := id hL
  refine W.objInit hx hb hown (hts _ hq) (hts _ hq1) (hts _ hq2) rfl (by rw [hml]; exact k1.1) rfl hd (by omega) (by show 2 * 0 + _ + 12 ≤ _; omega) ?_
  exact kk p l e R s m args below meth c0 D dA sA A ad0 sz0 mc ms C ad H locs cells slots ls rs hE hH hL hst hS hk1 hk2
