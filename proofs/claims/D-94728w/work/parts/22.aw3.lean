set_option maxRecDepth 100000
/-! AW, part 3: rules of instructions that touch no heap (printed by aw3.py) -/
theorem i32_of {n : Int} (h1 : -2147483648 ≤ n) (h2 : n < 2147483648) : (Int32.ofInt n).toInt = n := by
  rw [Int32.toInt_ofInt]
  exact bmod_id (by show -((4294967296 : Nat) : Int) ≤ _; omega) (by show _ < ((4294967296 : Nat) : Int); omega)
theorem i8_of {n : Int} (h1 : -128 ≤ n) (h2 : n < 128) : (Int8.ofInt n).toInt32.toInt = n := by
  rw [Int8.toInt_toInt32, Int8.toInt_ofInt]
  exact bmod_id (by show -((256 : Nat) : Int) ≤ _; omega) (by show _ < ((256 : Nat) : Int); omega)
theorem i16_of {n : Int} (h1 : -32768 ≤ n) (h2 : n < 32768) : (Int16.ofInt n).toInt32.toInt = n := by
  rw [Int16.toInt_toInt32, Int16.toInt_ofInt]
  exact bmod_id (by show -((65536 : Nat) : Int) ≤ _; omega) (by show _ < ((65536 : Nat) : Int); omega)
theorem i32_wadd (a b : Int32) : (a + b).toInt = w32 (a.toInt + b.toInt) := by rw [Int32.toInt_add]; rfl
theorem i32_wsub (a b : Int32) : (a - b).toInt = w32 (a.toInt - b.toInt) := by rw [Int32.toInt_sub]; rfl
theorem i32_wmul (a b : Int32) : (a * b).toInt = w32 (a.toInt * b.toInt) := by rw [Int32.toInt_mul]; rfl
theorem i32_wneg (a : Int32) : (-a).toInt = w32 (-a.toInt) := by rw [Int32.toInt_neg]; rfl
theorem i32_wdiv (a b : Int32) : (a / b).toInt = w32 (a.toInt.tdiv b.toInt) := by rw [Int32.toInt_div]; rfl
theorem i64_wadd (a b : Int64) : (a + b).toInt = w64 (a.toInt + b.toInt) := by rw [Int64.toInt_add]; rfl
theorem i64_wsub (a b : Int64) : (a - b).toInt = w64 (a.toInt - b.toInt) := by rw [Int64.toInt_sub]; rfl
theorem i64_wmul (a b : Int64) : (a * b).toInt = w64 (a.toInt * b.toInt) := by rw [Int64.toInt_mul]; rfl
theorem i64_wneg (a : Int64) : (-a).toInt = w64 (-a.toInt) := by rw [Int64.toInt_neg]; rfl
theorem i64_wdiv (a b : Int64) : (a / b).toInt = w64 (a.toInt.tdiv b.toInt) := by rw [Int64.toInt_div]; rfl
theorem i32_rem (a b : Int32) : (a - a / b * b).toInt = a.toInt.tmod b.toInt := rem_toInt a b
theorem bmod_add_sub (x y : Int) (n : Nat) : (x - (y.bmod n)).bmod n = (x - y).bmod n := by
  first | exact Int.sub_bmod_bmod .. | simp
theorem i64_rem (a b : Int64) : (a - a / b * b).toInt = a.toInt.tmod b.toInt := by
  rw [Int64.toInt_sub, Int64.toInt_mul, Int64.toInt_div]
  have e1 : ((a.toInt.tdiv b.toInt).bmod (2 ^ 64) * b.toInt).bmod (2 ^ 64) = (a.toInt.tdiv b.toInt * b.toInt).bmod (2 ^ 64) := by simp
  rw [e1]
  have e2 : (a.toInt - (a.toInt.tdiv b.toInt * b.toInt).bmod (2 ^ 64)).bmod (2 ^ 64) = (a.toInt - a.toInt.tdiv b.toInt * b.toInt).bmod (2 ^ 64) := by simp
  rw [e2]
  have e3 : a.toInt - a.toInt.tdiv b.toInt * b.toInt = a.toInt.tmod b.toInt := by
    have := Int.tmod_add_mul_tdiv a.toInt b.toInt
    rw [Int.mul_comm] at this
    omega
  rw [e3]
  have l1 := i64_lo a
  have l2 := i64_hi a
  have h3 : (a.toInt.tmod b.toInt).natAbs ≤ a.toInt.natAbs := by
    rw [Int.natAbs_tmod]
    exact Nat.mod_le _ _
  have h4 : 0 ≤ a.toInt → 0 ≤ a.toInt.tmod b.toInt := fun h => Int.tmod_nonneg _ h
  have h5 : a.toInt ≤ 0 → a.toInt.tmod b.toInt ≤ 0 := fun h => by
    have h6 := Int.tmod_nonneg (a := -a.toInt) b.toInt (by omega)
    rw [Int.neg_tmod] at h6
    omega
  apply bmod_id
  · show -((2 ^ 64 : Nat) : Int) ≤ _
    have : ((2 ^ 64 : Nat) : Int) = 18446744073709551616 := by decide
    omega
  · show _ < ((2 ^ 64 : Nat) : Int)
    have : ((2 ^ 64 : Nat) : Int) = 18446744073709551616 := by decide
    omega

theorem aw_iconst {Z : aZ} {M : aMD} {d kc ks pc : Nat} {L : List (Option aV)} {st : List aV} {G : aG} {n : Int} (hd : decode M.2.1 pc = .ok (.iconst n, 1)) (hn : -1 ≤ n ∧ n ≤ 5) (k : AW Z M d kc ks (pc + 1) L (vI n :: st) G) : AW Z M d kc ks pc L (st) G := by
  intro p l e R s m args below meth c D dA sA A ad0 sz0 mc ms C ad H locs cells slots ls rst hE hH hL hst hS hk1 hk2
  obtain ⟨hx, hb, hml, hown, hts, hret, hlk, hnm, htab, hR, hV, hA⟩ := id C
  refine lv_iconst hx hb hd rfl ?_
  exact k p l e R s m args below meth c D dA sA A ad0 sz0 mc ms C ad H locs cells slots ls (.int (Int32.ofInt n) :: rst) hE hH hL ⟨_, _, rfl, ⟨_, rfl, (i32_of (by omega) (by omega)).symm⟩, hst⟩ hS hk1 hk2
theorem aw_bipush {Z : aZ} {M : aMD} {d kc ks pc : Nat} {L : List (Option aV)} {st : List aV} {G : aG} {n : Int} (hd : decode M.2.1 pc = .ok (.bipush n, 2)) (hn : -128 ≤ n ∧ n < 128) (k : AW Z M d kc ks (pc + 2) L (vI n :: st) G) : AW Z M d kc ks pc L (st) G := by
  intro p l e R s m args below meth c D dA sA A ad0 sz0 mc ms C ad H locs cells slots ls rst hE hH hL hst hS hk1 hk2
  obtain ⟨hx, hb, hml, hown, hts, hret, hlk, hnm, htab, hR, hV, hA⟩ := id C
  refine lv_bipush hx hb hd rfl ?_
  exact k p l e R s m args below meth c D dA sA A ad0 sz0 mc ms C ad H locs cells slots ls (.int (Int8.ofInt n).toInt32 :: rst) hE hH hL ⟨_, _, rfl, ⟨_, rfl, (i8_of hn.1 hn.2).symm⟩, hst⟩ hS hk1 hk2
theorem aw_sipush {Z : aZ} {M : aMD} {d kc ks pc : Nat} {L : List (Option aV)} {st : List aV} {G : aG} {n : Int} (hd : decode M.2.1 pc = .ok (.sipush n, 3)) (hn : -32768 ≤ n ∧ n < 32768) (k : AW Z M d kc ks (pc + 3) L (vI n :: st) G) : AW Z M d kc ks pc L (st) G := by
  intro p l e R s m args below meth c D dA sA A ad0 sz0 mc ms C ad H locs cells slots ls rst hE hH hL hst hS hk1 hk2
  obtain ⟨hx, hb, hml, hown, hts, hret, hlk, hnm, htab, hR, hV, hA⟩ := id C
  refine lv_sipush hx hb hd rfl ?_
  exact k p l e R s m args below meth c D dA sA A ad0 sz0 mc ms C ad H locs cells slots ls (.int (Int16.ofInt n).toInt32 :: rst) hE hH hL ⟨_, _, rfl, ⟨_, rfl, (i16_of hn.1 hn.2).symm⟩, hst⟩ hS hk1 hk2
theorem aw_lconst0 {Z : aZ} {M : aMD} {d kc ks pc : Nat} {L : List (Option aV)} {st : List aV} {G : aG}  (hd : decode M.2.1 pc = .ok (.lconst 0, 1)) (k : AW Z M d kc ks (pc + 1) L (vL 0 :: st) G) : AW Z M d kc ks pc L (st) G := by
  intro p l e R s m args below meth c D dA sA A ad0 sz0 mc ms C ad H locs cells slots ls rst hE hH hL hst hS hk1 hk2
  obtain ⟨hx, hb, hml, hown, hts, hret, hlk, hnm, htab, hR, hV, hA⟩ := id C
  refine lv_lconst (v := 0) hx hb hd rfl ?_
  exact k p l e R s m args below meth c D dA sA A ad0 sz0 mc ms C ad H locs cells slots ls (.long 0 :: rst) hE hH hL ⟨_, _, rfl, ⟨_, rfl, by decide⟩, hst⟩ hS hk1 hk2
theorem aw_lconst1 {Z : aZ} {M : aMD} {d kc ks pc : Nat} {L : List (Option aV)} {st : List aV} {G : aG}  (hd : decode M.2.1 pc = .ok (.lconst 1, 1)) (k : AW Z M d kc ks (pc + 1) L (vL 1 :: st) G) : AW Z M d kc ks pc L (st) G := by
  intro p l e R s m args below meth c D dA sA A ad0 sz0 mc ms C ad H locs cells slots ls rst hE hH hL hst hS hk1 hk2
  obtain ⟨hx, hb, hml, hown, hts, hret, hlk, hnm, htab, hR, hV, hA⟩ := id C
  refine lv_lconst (v := 1) hx hb hd rfl ?_
  exact k p l e R s m args below meth c D dA sA A ad0 sz0 mc ms C ad H locs cells slots ls (.long 1 :: rst) hE hH hL ⟨_, _, rfl, ⟨_, rfl, by decide⟩, hst⟩ hS hk1 hk2
theorem aw_ldc {Z : aZ} {M : aMD} {d kc ks pc : Nat} {L : List (Option aV)} {st : List aV} {G : aG} {i : Nat} {v : Int32} {x : Int} (hd : decode M.2.1 pc = .ok (.ldc i, 2)) (hq : Cond.constant M.1.cls i v ∈ lw_all) (hv : v.toInt = x) (k : AW Z M d kc ks (pc + 2) L (vI x :: st) G) : AW Z M d kc ks pc L (st) G := by
  intro p l e R s m args below meth c D dA sA A ad0 sz0 mc ms C ad H locs cells slots ls rst hE hH hL hst hS hk1 hk2
  obtain ⟨hx, hb, hml, hown, hts, hret, hlk, hnm, htab, hR, hV, hA⟩ := id C
  refine lv_ldc hx hb hown (hts _ hq) hd ?_
  exact k p l e R s m args below meth c D dA sA A ad0 sz0 mc ms C ad H locs cells slots ls (.int v :: rst) hE hH hL ⟨_, _, rfl, ⟨_, rfl, hv.symm⟩, hst⟩ hS hk1 hk2
theorem aw_ldcw {Z : aZ} {M : aMD} {d kc ks pc : Nat} {L : List (Option aV)} {st : List aV} {G : aG} {i : Nat} {v : Int32} {x : Int} (hd : decode M.2.1 pc = .ok (.ldc_w i, 3)) (hq : Cond.constant M.1.cls i v ∈ lw_all) (hv : v.toInt = x) (k : AW Z M d kc ks (pc + 3) L (vI x :: st) G) : AW Z M d kc ks pc L (st) G := by
  intro p l e R s m args below meth c D dA sA A ad0 sz0 mc ms C ad H locs cells slots ls rst hE hH hL hst hS hk1 hk2
  obtain ⟨hx, hb, hml, hown, hts, hret, hlk, hnm, htab, hR, hV, hA⟩ := id C
  refine lv_ldcw hx hb hown (hts _ hq) hd ?_
  exact k p l e R s m args below meth c D dA sA A ad0 sz0 mc ms C ad H locs cells slots ls (.int v :: rst) hE hH hL ⟨_, _, rfl, ⟨_, rfl, hv.symm⟩, hst⟩ hS hk1 hk2
theorem aw_ldc2 {Z : aZ} {M : aMD} {d kc ks pc : Nat} {L : List (Option aV)} {st : List aV} {G : aG} {i : Nat} {v : Int64} {x : Int} (hd : decode M.2.1 pc = .ok (.ldc2_w i, 3)) (hq : Cond.constantLong M.1.cls i v ∈ lw_all) (hv : v.toInt = x) (k : AW Z M d kc ks (pc + 3) L (vL x :: st) G) : AW Z M d kc ks pc L (st) G := by
  intro p l e R s m args below meth c D dA sA A ad0 sz0 mc ms C ad H locs cells slots ls rst hE hH hL hst hS hk1 hk2
  obtain ⟨hx, hb, hml, hown, hts, hret, hlk, hnm, htab, hR, hV, hA⟩ := id C
  refine lv_ldc2 hx hb hown (hts _ hq) hd ?_
  exact k p l e R s m args below meth c D dA sA A ad0 sz0 mc ms C ad H locs cells slots ls (.long v :: rst) hE hH hL ⟨_, _, rfl, ⟨_, rfl, hv.symm⟩, hst⟩ hS hk1 hk2
theorem aw_ldcS {Z : aZ} {M : aMD} {d kc ks pc : Nat} {L : List (Option aV)} {st : List aV} {G : aG} {i k9 : Nat} {tx : String} {own : String} (hd : decode M.2.1 pc = .ok (.ldc i, 2)) (hq : awStr[k9]? = some (own, i, tx)) (ho : M.1.cls = own) (hk : k9 < 24) (k : AW Z M d kc ks (pc + 2) L (vR (-2 - (k9 : Int)) :: st) G) : AW Z M d kc ks pc L (st) G := by
  intro p l e R s m args below meth c D dA sA A ad0 sz0 mc ms C ad H locs cells slots ls rst hE hH hL hst hS hk1 hk2
  obtain ⟨hx, hb, hml, hown, hts, hret, hlk, hnm, htab, hR, hV, hA⟩ := id C
  obtain ⟨-, -, -, -, -, -, hs, -⟩ := hV
  refine va_ldcS (q := sA k9) hx hb hown (by rw [ho]; exact hs k9 _ hq) hd ?_
  exact k p l e R s m args below meth c D dA sA A ad0 sz0 mc ms C ad H locs cells slots ls (.ref (sA k9) :: rst) hE hH hL ⟨_, _, rfl, Or.inr (Or.inr (Or.inl ⟨k9, rfl, by omega, rfl⟩)), hst⟩ hS hk1 hk2
theorem aw_null {Z : aZ} {M : aMD} {d kc ks pc : Nat} {L : List (Option aV)} {st : List aV} {G : aG}  (hd : decode M.2.1 pc = .ok (.aconst_null, 1)) (k : AW Z M d kc ks (pc + 1) L (vR (-1) :: st) G) : AW Z M d kc ks pc L (st) G := by
  intro p l e R s m args below meth c D dA sA A ad0 sz0 mc ms C ad H locs cells slots ls rst hE hH hL hst hS hk1 hk2
  obtain ⟨hx, hb, hml, hown, hts, hret, hlk, hnm, htab, hR, hV, hA⟩ := id C
  refine lv_null hx hb hd ?_
  exact k p l e R s m args below meth c D dA sA A ad0 sz0 mc ms C ad H locs cells slots ls (.null :: rst) hE hH hL ⟨_, _, rfl, Or.inl ⟨rfl, rfl⟩, hst⟩ hS hk1 hk2
theorem aw_iload_n {Z : aZ} {M : aMD} {d kc ks pc : Nat} {L : List (Option aV)} {st : List aV} {G : aG} {i : Fin 4} {x : Int} (hd : decode M.2.1 pc = .ok (.iload_n i, 1)) (hi : L[(i : Nat)]? = some (some (vI x))) (k : AW Z M d kc ks (pc + 1) L (vI x :: st) G) : AW Z M d kc ks pc L (st) G := by
  intro p l e R s m args below meth c D dA sA A ad0 sz0 mc ms C ad H locs cells slots ls rst hE hH hL hst hS hk1 hk2
  obtain ⟨hx, hb, hml, hown, hts, hret, hlk, hnm, htab, hR, hV, hA⟩ := id C
  obtain ⟨v, h1, r, rfl, h2⟩ := hL.get hi
  refine lv_iload_n hx hb hd rfl h1 ?_
  exact k p l e R s m args below meth c D dA sA A ad0 sz0 mc ms C ad H locs cells slots ls (.int r :: rst) hE hH hL ⟨_, _, rfl, ⟨_, rfl, h2⟩, hst⟩ hS hk1 hk2
theorem aw_iload {Z : aZ} {M : aMD} {d kc ks pc : Nat} {L : List (Option aV)} {st : List aV} {G : aG} {i : Nat} {x : Int} (hd : decode M.2.1 pc = .ok (.iload i, 2)) (hi : L[i]? = some (some (vI x))) (k : AW Z M d kc ks (pc + 2) L (vI x :: st) G) : AW Z M d kc ks pc L (st) G := by
  intro p l e R s m args below meth c D dA sA A ad0 sz0 mc ms C ad H locs cells slots ls rst hE hH hL hst hS hk1 hk2
  obtain ⟨hx, hb, hml, hown, hts, hret, hlk, hnm, htab, hR, hV, hA⟩ := id C
  obtain ⟨v, h1, r, rfl, h2⟩ := hL.get hi
  refine lv_iload hx hb hd h1 ?_
  exact k p l e R s m args below meth c D dA sA A ad0 sz0 mc ms C ad H locs cells slots ls (.int r :: rst) hE hH hL ⟨_, _, rfl, ⟨_, rfl, h2⟩, hst⟩ hS hk1 hk2
theorem aw_lload_n {Z : aZ} {M : aMD} {d kc ks pc : Nat} {L : List (Option aV)} {st : List aV} {G : aG} {i : Fin 4} {x : Int} (hd : decode M.2.1 pc = .ok (.lload_n i, 1)) (hi : L[(i : Nat)]? = some (some (vL x))) (k : AW Z M d kc ks (pc + 1) L (vL x :: st) G) : AW Z M d kc ks pc L (st) G := by
  intro p l e R s m args below meth c D dA sA A ad0 sz0 mc ms C ad H locs cells slots ls rst hE hH hL hst hS hk1 hk2
  obtain ⟨hx, hb, hml, hown, hts, hret, hlk, hnm, htab, hR, hV, hA⟩ := id C
  obtain ⟨v, h1, r, rfl, h2⟩ := hL.get hi
  refine lv_lload_n hx hb hd rfl h1 ?_
  exact k p l e R s m args below meth c D dA sA A ad0 sz0 mc ms C ad H locs cells slots ls (.long r :: rst) hE hH hL ⟨_, _, rfl, ⟨_, rfl, h2⟩, hst⟩ hS hk1 hk2
theorem aw_lload {Z : aZ} {M : aMD} {d kc ks pc : Nat} {L : List (Option aV)} {st : List aV} {G : aG} {i : Nat} {x : Int} (hd : decode M.2.1 pc = .ok (.lload i, 2)) (hi : L[i]? = some (some (vL x))) (k : AW Z M d kc ks (pc + 2) L (vL x :: st) G) : AW Z M d kc ks pc L (st) G := by
  intro p l e R s m args below meth c D dA sA A ad0 sz0 mc ms C ad H locs cells slots ls rst hE hH hL hst hS hk1 hk2
  obtain ⟨hx, hb, hml, hown, hts, hret, hlk, hnm, htab, hR, hV, hA⟩ := id C
  obtain ⟨v, h1, r, rfl, h2⟩ := hL.get hi
  refine lv_lload hx hb hd h1 ?_
  exact k p l e R s m args below meth c D dA sA A ad0 sz0 mc ms C ad H locs cells slots ls (.long r :: rst) hE hH hL ⟨_, _, rfl, ⟨_, rfl, h2⟩, hst⟩ hS hk1 hk2
theorem rfk_cases {sA : Nat → Nat} {ad : Int → Nat} {sz x : Int} {v : Value} (h : rfk sA ad sz x v) : v = .null ∨ ∃ q, v = .ref q := by
  rcases h with ⟨-, rfl⟩ | ⟨-, -, rfl⟩ | ⟨k, -, -, rfl⟩ | ⟨-, rfl | ⟨q, rfl⟩⟩
  · exact Or.inl rfl
  · exact Or.inr ⟨_, rfl⟩
  · exact Or.inr ⟨_, rfl⟩
  · exact Or.inl rfl
  · exact Or.inr ⟨_, rfl⟩
theorem aw_aload_n {Z : aZ} {M : aMD} {d kc ks pc : Nat} {L : List (Option aV)} {st : List aV} {G : aG} {i : Fin 4} {x : Int} (hd : decode M.2.1 pc = .ok (.aload_n i, 1)) (hi : L[(i : Nat)]? = some (some (vR x))) (k : AW Z M d kc ks (pc + 1) L (vR x :: st) G) : AW Z M d kc ks pc L (st) G := by
  intro p l e R s m args below meth c D dA sA A ad0 sz0 mc ms C ad H locs cells slots ls rst hE hH hL hst hS hk1 hk2
  obtain ⟨hx, hb, hml, hown, hts, hret, hlk, hnm, htab, hR, hV, hA⟩ := id C
  obtain ⟨v, h1, h2⟩ := hL.get hi
  rcases rfk_cases h2 with rfl | ⟨q, rfl⟩
  · refine lv_aload_nN hx hb hd rfl h1 ?_
    exact k p l e R s m args below meth c D dA sA A ad0 sz0 mc ms C ad H locs cells slots ls (.null :: rst) hE hH hL ⟨_, _, rfl, h2, hst⟩ hS hk1 hk2
  · refine lv_aload_n hx hb hd rfl h1 ?_
    exact k p l e R s m args below meth c D dA sA A ad0 sz0 mc ms C ad H locs cells slots ls (.ref q :: rst) hE hH hL ⟨_, _, rfl, h2, hst⟩ hS hk1 hk2
theorem aw_aload {Z : aZ} {M : aMD} {d kc ks pc : Nat} {L : List (Option aV)} {st : List aV} {G : aG} {i : Nat} {x : Int} (hd : decode M.2.1 pc = .ok (.aload i, 2)) (hi : L[i]? = some (some (vR x))) (k : AW Z M d kc ks (pc + 2) L (vR x :: st) G) : AW Z M d kc ks pc L (st) G := by
  intro p l e R s m args below meth c D dA sA A ad0 sz0 mc ms C ad H locs cells slots ls rst hE hH hL hst hS hk1 hk2
  obtain ⟨hx, hb, hml, hown, hts, hret, hlk, hnm, htab, hR, hV, hA⟩ := id C
  obtain ⟨v, h1, h2⟩ := hL.get hi
  rcases rfk_cases h2 with rfl | ⟨q, rfl⟩
  · refine lv_aloadN hx hb hd h1 ?_
    exact k p l e R s m args below meth c D dA sA A ad0 sz0 mc ms C ad H locs cells slots ls (.null :: rst) hE hH hL ⟨_, _, rfl, h2, hst⟩ hS hk1 hk2
  · refine lv_aload hx hb hd h1 ?_
    exact k p l e R s m args below meth c D dA sA A ad0 sz0 mc ms C ad H locs cells slots ls (.ref q :: rst) hE hH hL ⟨_, _, rfl, h2, hst⟩ hS hk1 hk2
theorem aw_istore_n {Z : aZ} {M : aMD} {d kc ks pc : Nat} {L : List (Option aV)} {st : List aV} {G : aG} {i : Fin 4} {x : Int} (hd : decode M.2.1 pc = .ok (.istore_n i, 1)) (hi : (i : Nat) < M.2.2.1) (hno : nolong L (i : Nat) = true) (k : AW Z M d kc ks (pc + 1) (L.set (i : Nat) (some (vI x))) (st) G) : AW Z M d kc ks pc L (vI x :: st) G := by
  intro p l e R s m args below meth c D dA sA A ad0 sz0 mc ms C ad H locs cells slots ls rst hE hH hL hst hS hk1 hk2
  obtain ⟨hx, hb, hml, hown, hts, hret, hlk, hnm, htab, hR, hV, hA⟩ := id C
  obtain ⟨v, r', rfl, ⟨r, rfl, h2⟩, hst⟩ := hst
  obtain ⟨k0, lv, k1, k2⟩ := hL
  refine lv_istore_n hx hb hd rfl k1 hi rfl fun ls' hl' => ?_
  exact k p l e R s m args below meth c D dA sA A ad0 sz0 mc ms C ad H locs cells slots ls' r' hE hH (lrel.set1 k0 k2 hl' ⟨r, rfl, h2⟩ hno) hst hS hk1 hk2
theorem aw_istore {Z : aZ} {M : aMD} {d kc ks pc : Nat} {L : List (Option aV)} {st : List aV} {G : aG} {i : Nat} {x : Int} (hd : decode M.2.1 pc = .ok (.istore i, 2)) (hi : i < M.2.2.1) (hno : nolong L i = true) (k : AW Z M d kc ks (pc + 2) (L.set i (some (vI x))) (st) G) : AW Z M d kc ks pc L (vI x :: st) G := by
  intro p l e R s m args below meth c D dA sA A ad0 sz0 mc ms C ad H locs cells slots ls rst hE hH hL hst hS hk1 hk2
  obtain ⟨hx, hb, hml, hown, hts, hret, hlk, hnm, htab, hR, hV, hA⟩ := id C
  obtain ⟨v, r', rfl, ⟨r, rfl, h2⟩, hst⟩ := hst
  obtain ⟨k0, lv, k1, k2⟩ := hL
  refine lv_istore hx hb hd k1 hi rfl fun ls' hl' => ?_
  exact k p l e R s m args below meth c D dA sA A ad0 sz0 mc ms C ad H locs cells slots ls' r' hE hH (lrel.set1 k0 k2 hl' ⟨r, rfl, h2⟩ hno) hst hS hk1 hk2
theorem aw_lstore_n {Z : aZ} {M : aMD} {d kc ks pc : Nat} {L : List (Option aV)} {st : List aV} {G : aG} {i : Fin 4} {x : Int} (hd : decode M.2.1 pc = .ok (.lstore_n i, 1)) (hi : (i : Nat) + 1 < M.2.2.1) (hno : nolong L (i : Nat) = true) (k : AW Z M d kc ks (pc + 1) ((L.set (i : Nat) (some (vL x))).set ((i : Nat) + 1) none) (st) G) : AW Z M d kc ks pc L (vL x :: st) G := by
  intro p l e R s m args below meth c D dA sA A ad0 sz0 mc ms C ad H locs cells slots ls rst hE hH hL hst hS hk1 hk2
  obtain ⟨hx, hb, hml, hown, hts, hret, hlk, hnm, htab, hR, hV, hA⟩ := id C
  obtain ⟨v, r', rfl, ⟨r, rfl, h2⟩, hst⟩ := hst
  obtain ⟨k0, lv, k1, k2⟩ := hL
  refine lv_lstore_n hx hb hd rfl k1 hi rfl fun ls' hl' => ?_
  exact k p l e R s m args below meth c D dA sA A ad0 sz0 mc ms C ad H locs cells slots ls' r' hE hH (lrel.set2 k0 k2 hl' ⟨r, rfl, h2⟩ hno) hst hS hk1 hk2
theorem aw_lstore {Z : aZ} {M : aMD} {d kc ks pc : Nat} {L : List (Option aV)} {st : List aV} {G : aG} {i : Nat} {x : Int} (hd : decode M.2.1 pc = .ok (.lstore i, 2)) (hi : i + 1 < M.2.2.1) (hno : nolong L i = true) (k : AW Z M d kc ks (pc + 2) ((L.set i (some (vL x))).set (i + 1) none) (st) G) : AW Z M d kc ks pc L (vL x :: st) G := by
  intro p l e R s m args below meth c D dA sA A ad0 sz0 mc ms C ad H locs cells slots ls rst hE hH hL hst hS hk1 hk2
  obtain ⟨hx, hb, hml, hown, hts, hret, hlk, hnm, htab, hR, hV, hA⟩ := id C
  obtain ⟨v, r', rfl, ⟨r, rfl, h2⟩, hst⟩ := hst
  obtain ⟨k0, lv, k1, k2⟩ := hL
  refine lv_lstore hx hb hd k1 hi rfl fun ls' hl' => ?_
  exact k p l e R s m args below meth c D dA sA A ad0 sz0 mc ms C ad H locs cells slots ls' r' hE hH (lrel.set2 k0 k2 hl' ⟨r, rfl, h2⟩ hno) hst hS hk1 hk2
theorem aw_astore_n {Z : aZ} {M : aMD} {d kc ks pc : Nat} {L : List (Option aV)} {st : List aV} {G : aG} {i : Fin 4} {x : Int} (hd : decode M.2.1 pc = .ok (.astore_n i, 1)) (hi : (i : Nat) < M.2.2.1) (hno : nolong L (i : Nat) = true) (k : AW Z M d kc ks (pc + 1) (L.set (i : Nat) (some (vR x))) (st) G) : AW Z M d kc ks pc L (vR x :: st) G := by
  intro p l e R s m args below meth c D dA sA A ad0 sz0 mc ms C ad H locs cells slots ls rst hE hH hL hst hS hk1 hk2
  obtain ⟨hx, hb, hml, hown, hts, hret, hlk, hnm, htab, hR, hV, hA⟩ := id C
  obtain ⟨v, r', rfl, h2, hst⟩ := hst
  obtain ⟨k0, lv, k1, k2⟩ := hL
  rcases rfk_cases h2 with rfl | ⟨q, rfl⟩
  · refine lv_astore_nN hx hb hd rfl k1 hi rfl fun ls' hl' => ?_
    exact k p l e R s m args below meth c D dA sA A ad0 sz0 mc ms C ad H locs cells slots ls' r' hE hH (lrel.set1 (a := vR x) k0 k2 hl' h2 hno) hst hS hk1 hk2
  · refine lv_astore_n hx hb hd rfl k1 hi rfl fun ls' hl' => ?_
    exact k p l e R s m args below meth c D dA sA A ad0 sz0 mc ms C ad H locs cells slots ls' r' hE hH (lrel.set1 (a := vR x) k0 k2 hl' h2 hno) hst hS hk1 hk2
theorem aw_astore {Z : aZ} {M : aMD} {d kc ks pc : Nat} {L : List (Option aV)} {st : List aV} {G : aG} {i : Nat} {x : Int} (hd : decode M.2.1 pc = .ok (.astore i, 2)) (hi : i < M.2.2.1) (hno : nolong L i = true) (k : AW Z M d kc ks (pc + 2) (L.set i (some (vR x))) (st) G) : AW Z M d kc ks pc L (vR x :: st) G := by
  intro p l e R s m args below meth c D dA sA A ad0 sz0 mc ms C ad H locs cells slots ls rst hE hH hL hst hS hk1 hk2
  obtain ⟨hx, hb, hml, hown, hts, hret, hlk, hnm, htab, hR, hV, hA⟩ := id C
  obtain ⟨v, r', rfl, h2, hst⟩ := hst
  obtain ⟨k0, lv, k1, k2⟩ := hL
  rcases rfk_cases h2 with rfl | ⟨q, rfl⟩
  · refine lv_astoreN hx hb hd k1 hi rfl fun ls' hl' => ?_
    exact k p l e R s m args below meth c D dA sA A ad0 sz0 mc ms C ad H locs cells slots ls' r' hE hH (lrel.set1 (a := vR x) k0 k2 hl' h2 hno) hst hS hk1 hk2
  · refine lv_astore hx hb hd k1 hi rfl fun ls' hl' => ?_
    exact k p l e R s m args below meth c D dA sA A ad0 sz0 mc ms C ad H locs cells slots ls' r' hE hH (lrel.set1 (a := vR x) k0 k2 hl' h2 hno) hst hS hk1 hk2
theorem aw_iinc {Z : aZ} {M : aMD} {d kc ks pc : Nat} {L : List (Option aV)} {st : List aV} {G : aG} {i : Nat} {n x : Int} (hd : decode M.2.1 pc = .ok (.iinc i n, 3)) (hi : L[i]? = some (some (vI x))) (hi2 : i < M.2.2.1) (hn : -128 ≤ n ∧ n < 128) (hno : nolong L i = true) (k : AW Z M d kc ks (pc + 3) (L.set i (some (vI (w32 (x + n))))) (st) G) : AW Z M d kc ks pc L (st) G := by
  intro p l e R s m args below meth c D dA sA A ad0 sz0 mc ms C ad H locs cells slots ls rst hE hH hL hst hS hk1 hk2
  obtain ⟨hx, hb, hml, hown, hts, hret, hlk, hnm, htab, hR, hV, hA⟩ := id C
  obtain ⟨k0, lv, k1, k2⟩ := hL
  obtain ⟨v, h1, r, rfl, h2⟩ := k2 i _ hi
  obtain ⟨k9, hk9⟩ := List.getElem?_of_mem h1
  refine lv_iinc hx hb hd k1 hk9 rfl hi2 rfl fun ls' hl' => ?_
  exact k p l e R s m args below meth c D dA sA A ad0 sz0 mc ms C ad H locs cells slots ls' rst hE hH (lrel.set1 (a := vI (w32 (x + n))) k0 k2 hl' ⟨_, rfl, by rw [i32_wadd, h2, i32_of (by omega) (by omega)]⟩ hno) hst hS hk1 hk2
theorem aw_istore0 {Z : aZ} {M : aMD} {d kc ks pc : Nat} {a0 : Option aV} {t : List (Option aV)} {st : List aV} {G : aG} {x : Int} (hd : decode M.2.1 pc = .ok (.istore_n 0, 1)) (hi : 0 < M.2.2.1)  (k : AW Z M d kc ks (pc + 1) (some (vI x) :: t) st G) : AW Z M d kc ks pc (a0 :: t) (vI x :: st) G := aw_istore_n hd hi rfl k
theorem aw_astore0 {Z : aZ} {M : aMD} {d kc ks pc : Nat} {a0 : Option aV} {t : List (Option aV)} {st : List aV} {G : aG} {x : Int} (hd : decode M.2.1 pc = .ok (.astore_n 0, 1)) (hi : 0 < M.2.2.1)  (k : AW Z M d kc ks (pc + 1) (some (vR x) :: t) st G) : AW Z M d kc ks pc (a0 :: t) (vR x :: st) G := aw_astore_n hd hi rfl k
theorem aw_iinc0 {Z : aZ} {M : aMD} {d kc ks pc : Nat} {t : List (Option aV)} {st : List aV} {G : aG} {n x : Int} (hd : decode M.2.1 pc = .ok (.iinc 0 n, 3)) (hi : 0 < M.2.2.1) (hn : -128 ≤ n ∧ n < 128)  (k : AW Z M d kc ks (pc + 3) (some (vI (w32 (x + n))) :: t) st G) : AW Z M d kc ks pc (some (vI x) :: t) st G := aw_iinc hd rfl hi hn rfl k
theorem aw_lstore0 {Z : aZ} {M : aMD} {d kc ks pc : Nat} {a0 a1 : Option aV} {t : List (Option aV)} {st : List aV} {G : aG} {x : Int} (hd : decode M.2.1 pc = .ok (.lstore_n 0, 1)) (hi : 0 + 1 < M.2.2.1)  (k : AW Z M d kc ks (pc + 1) (some (vL x) :: none :: t) st G) : AW Z M d kc ks pc (a0 :: a1 :: t) (vL x :: st) G := aw_lstore_n hd hi rfl k
theorem aw_istore1 {Z : aZ} {M : aMD} {d kc ks pc : Nat} {a0 a1 : Option aV} {t : List (Option aV)} {st : List aV} {G : aG} {x : Int} (hd : decode M.2.1 pc = .ok (.istore_n 1, 1)) (hi : 1 < M.2.2.1) (hno : nl (some a0) = true) (k : AW Z M d kc ks (pc + 1) (a0 :: some (vI x) :: t) st G) : AW Z M d kc ks pc (a0 :: a1 :: t) (vI x :: st) G := aw_istore_n hd hi hno k
theorem aw_astore1 {Z : aZ} {M : aMD} {d kc ks pc : Nat} {a0 a1 : Option aV} {t : List (Option aV)} {st : List aV} {G : aG} {x : Int} (hd : decode M.2.1 pc = .ok (.astore_n 1, 1)) (hi : 1 < M.2.2.1) (hno : nl (some a0) = true) (k : AW Z M d kc ks (pc + 1) (a0 :: some (vR x) :: t) st G) : AW Z M d kc ks pc (a0 :: a1 :: t) (vR x :: st) G := aw_astore_n hd hi hno k
theorem aw_iinc1 {Z : aZ} {M : aMD} {d kc ks pc : Nat} {a0 : Option aV} {t : List (Option aV)} {st : List aV} {G : aG} {n x : Int} (hd : decode M.2.1 pc = .ok (.iinc 1 n, 3)) (hi : 1 < M.2.2.1) (hn : -128 ≤ n ∧ n < 128) (hno : nl (some a0) = true) (k : AW Z M d kc ks (pc + 3) (a0 :: some (vI (w32 (x + n))) :: t) st G) : AW Z M d kc ks pc (a0 :: some (vI x) :: t) st G := aw_iinc hd rfl hi hn hno k
theorem aw_lstore1 {Z : aZ} {M : aMD} {d kc ks pc : Nat} {a0 a1 a2 : Option aV} {t : List (Option aV)} {st : List aV} {G : aG} {x : Int} (hd : decode M.2.1 pc = .ok (.lstore_n 1, 1)) (hi : 1 + 1 < M.2.2.1) (hno : nl (some a0) = true) (k : AW Z M d kc ks (pc + 1) (a0 :: some (vL x) :: none :: t) st G) : AW Z M d kc ks pc (a0 :: a1 :: a2 :: t) (vL x :: st) G := aw_lstore_n hd hi hno k
theorem aw_istore2 {Z : aZ} {M : aMD} {d kc ks pc : Nat} {a0 a1 a2 : Option aV} {t : List (Option aV)} {st : List aV} {G : aG} {x : Int} (hd : decode M.2.1 pc = .ok (.istore_n 2, 1)) (hi : 2 < M.2.2.1) (hno : nl (some a1) = true) (k : AW Z M d kc ks (pc + 1) (a0 :: a1 :: some (vI x) :: t) st G) : AW Z M d kc ks pc (a0 :: a1 :: a2 :: t) (vI x :: st) G := aw_istore_n hd hi hno k
theorem aw_astore2 {Z : aZ} {M : aMD} {d kc ks pc : Nat} {a0 a1 a2 : Option aV} {t : List (Option aV)} {st : List aV} {G : aG} {x : Int} (hd : decode M.2.1 pc = .ok (.astore_n 2, 1)) (hi : 2 < M.2.2.1) (hno : nl (some a1) = true) (k : AW Z M d kc ks (pc + 1) (a0 :: a1 :: some (vR x) :: t) st G) : AW Z M d kc ks pc (a0 :: a1 :: a2 :: t) (vR x :: st) G := aw_astore_n hd hi hno k
theorem aw_iinc2 {Z : aZ} {M : aMD} {d kc ks pc : Nat} {a0 a1 : Option aV} {t : List (Option aV)} {st : List aV} {G : aG} {n x : Int} (hd : decode M.2.1 pc = .ok (.iinc 2 n, 3)) (hi : 2 < M.2.2.1) (hn : -128 ≤ n ∧ n < 128) (hno : nl (some a1) = true) (k : AW Z M d kc ks (pc + 3) (a0 :: a1 :: some (vI (w32 (x + n))) :: t) st G) : AW Z M d kc ks pc (a0 :: a1 :: some (vI x) :: t) st G := aw_iinc hd rfl hi hn hno k
theorem aw_lstore2 {Z : aZ} {M : aMD} {d kc ks pc : Nat} {a0 a1 a2 a3 : Option aV} {t : List (Option aV)} {st : List aV} {G : aG} {x : Int} (hd : decode M.2.1 pc = .ok (.lstore_n 2, 1)) (hi : 2 + 1 < M.2.2.1) (hno : nl (some a1) = true) (k : AW Z M d kc ks (pc + 1) (a0 :: a1 :: some (vL x) :: none :: t) st G) : AW Z M d kc ks pc (a0 :: a1 :: a2 :: a3 :: t) (vL x :: st) G := aw_lstore_n hd hi hno k
theorem aw_istore3 {Z : aZ} {M : aMD} {d kc ks pc : Nat} {a0 a1 a2 a3 : Option aV} {t : List (Option aV)} {st : List aV} {G : aG} {x : Int} (hd : decode M.2.1 pc = .ok (.istore_n 3, 1)) (hi : 3 < M.2.2.1) (hno : nl (some a2) = true) (k : AW Z M d kc ks (pc + 1) (a0 :: a1 :: a2 :: some (vI x) :: t) st G) : AW Z M d kc ks pc (a0 :: a1 :: a2 :: a3 :: t) (vI x :: st) G := aw_istore_n hd hi hno k
theorem aw_astore3 {Z : aZ} {M : aMD} {d kc ks pc : Nat} {a0 a1 a2 a3 : Option aV} {t : List (Option aV)} {st : List aV} {G : aG} {x : Int} (hd : decode M.2.1 pc = .ok (.astore_n 3, 1)) (hi : 3 < M.2.2.1) (hno : nl (some a2) = true) (k : AW Z M d kc ks (pc + 1) (a0 :: a1 :: a2 :: some (vR x) :: t) st G) : AW Z M d kc ks pc (a0 :: a1 :: a2 :: a3 :: t) (vR x :: st) G := aw_astore_n hd hi hno k
theorem aw_iinc3 {Z : aZ} {M : aMD} {d kc ks pc : Nat} {a0 a1 a2 : Option aV} {t : List (Option aV)} {st : List aV} {G : aG} {n x : Int} (hd : decode M.2.1 pc = .ok (.iinc 3 n, 3)) (hi : 3 < M.2.2.1) (hn : -128 ≤ n ∧ n < 128) (hno : nl (some a2) = true) (k : AW Z M d kc ks (pc + 3) (a0 :: a1 :: a2 :: some (vI (w32 (x + n))) :: t) st G) : AW Z M d kc ks pc (a0 :: a1 :: a2 :: some (vI x) :: t) st G := aw_iinc hd rfl hi hn hno k
theorem aw_lstore3 {Z : aZ} {M : aMD} {d kc ks pc : Nat} {a0 a1 a2 a3 a4 : Option aV} {t : List (Option aV)} {st : List aV} {G : aG} {x : Int} (hd : decode M.2.1 pc = .ok (.lstore_n 3, 1)) (hi : 3 + 1 < M.2.2.1) (hno : nl (some a2) = true) (k : AW Z M d kc ks (pc + 1) (a0 :: a1 :: a2 :: some (vL x) :: none :: t) st G) : AW Z M d kc ks pc (a0 :: a1 :: a2 :: a3 :: a4 :: t) (vL x :: st) G := aw_lstore_n hd hi hno k
theorem aw_istore4 {Z : aZ} {M : aMD} {d kc ks pc : Nat} {a0 a1 a2 a3 a4 : Option aV} {t : List (Option aV)} {st : List aV} {G : aG} {x : Int} (hd : decode M.2.1 pc = .ok (.istore 4, 2)) (hi : 4 < M.2.2.1) (hno : nl (some a3) = true) (k : AW Z M d kc ks (pc + 2) (a0 :: a1 :: a2 :: a3 :: some (vI x) :: t) st G) : AW Z M d kc ks pc (a0 :: a1 :: a2 :: a3 :: a4 :: t) (vI x :: st) G := aw_istore hd hi hno k
theorem aw_astore4 {Z : aZ} {M : aMD} {d kc ks pc : Nat} {a0 a1 a2 a3 a4 : Option aV} {t : List (Option aV)} {st : List aV} {G : aG} {x : Int} (hd : decode M.2.1 pc = .ok (.astore 4, 2)) (hi : 4 < M.2.2.1) (hno : nl (some a3) = true) (k : AW Z M d kc ks (pc + 2) (a0 :: a1 :: a2 :: a3 :: some (vR x) :: t) st G) : AW Z M d kc ks pc (a0 :: a1 :: a2 :: a3 :: a4 :: t) (vR x :: st) G := aw_astore hd hi hno k
theorem aw_iinc4 {Z : aZ} {M : aMD} {d kc ks pc : Nat} {a0 a1 a2 a3 : Option aV} {t : List (Option aV)} {st : List aV} {G : aG} {n x : Int} (hd : decode M.2.1 pc = .ok (.iinc 4 n, 3)) (hi : 4 < M.2.2.1) (hn : -128 ≤ n ∧ n < 128) (hno : nl (some a3) = true) (k : AW Z M d kc ks (pc + 3) (a0 :: a1 :: a2 :: a3 :: some (vI (w32 (x + n))) :: t) st G) : AW Z M d kc ks pc (a0 :: a1 :: a2 :: a3 :: some (vI x) :: t) st G := aw_iinc hd rfl hi hn hno k
theorem aw_lstore4 {Z : aZ} {M : aMD} {d kc ks pc : Nat} {a0 a1 a2 a3 a4 a5 : Option aV} {t : List (Option aV)} {st : List aV} {G : aG} {x : Int} (hd : decode M.2.1 pc = .ok (.lstore 4, 2)) (hi : 4 + 1 < M.2.2.1) (hno : nl (some a3) = true) (k : AW Z M d kc ks (pc + 2) (a0 :: a1 :: a2 :: a3 :: some (vL x) :: none :: t) st G) : AW Z M d kc ks pc (a0 :: a1 :: a2 :: a3 :: a4 :: a5 :: t) (vL x :: st) G := aw_lstore hd hi hno k
theorem aw_istore5 {Z : aZ} {M : aMD} {d kc ks pc : Nat} {a0 a1 a2 a3 a4 a5 : Option aV} {t : List (Option aV)} {st : List aV} {G : aG} {x : Int} (hd : decode M.2.1 pc = .ok (.istore 5, 2)) (hi : 5 < M.2.2.1) (hno : nl (some a4) = true) (k : AW Z M d kc ks (pc + 2) (a0 :: a1 :: a2 :: a3 :: a4 :: some (vI x) :: t) st G) : AW Z M d kc ks pc (a0 :: a1 :: a2 :: a3 :: a4 :: a5 :: t) (vI x :: st) G := aw_istore hd hi hno k
theorem aw_astore5 {Z : aZ} {M : aMD} {d kc ks pc : Nat} {a0 a1 a2 a3 a4 a5 : Option aV} {t : List (Option aV)} {st : List aV} {G : aG} {x : Int} (hd : decode M.2.1 pc = .ok (.astore 5, 2)) (hi : 5 < M.2.2.1) (hno : nl (some a4) = true) (k : AW Z M d kc ks (pc + 2) (a0 :: a1 :: a2 :: a3 :: a4 :: some (vR x) :: t) st G) : AW Z M d kc ks pc (a0 :: a1 :: a2 :: a3 :: a4 :: a5 :: t) (vR x :: st) G := aw_astore hd hi hno k
theorem aw_iinc5 {Z : aZ} {M : aMD} {d kc ks pc : Nat} {a0 a1 a2 a3 a4 : Option aV} {t : List (Option aV)} {st : List aV} {G : aG} {n x : Int} (hd : decode M.2.1 pc = .ok (.iinc 5 n, 3)) (hi : 5 < M.2.2.1) (hn : -128 ≤ n ∧ n < 128) (hno : nl (some a4) = true) (k : AW Z M d kc ks (pc + 3) (a0 :: a1 :: a2 :: a3 :: a4 :: some (vI (w32 (x + n))) :: t) st G) : AW Z M d kc ks pc (a0 :: a1 :: a2 :: a3 :: a4 :: some (vI x) :: t) st G := aw_iinc hd rfl hi hn hno k
theorem aw_lstore5 {Z : aZ} {M : aMD} {d kc ks pc : Nat} {a0 a1 a2 a3 a4 a5 a6 : Option aV} {t : List (Option aV)} {st : List aV} {G : aG} {x : Int} (hd : decode M.2.1 pc = .ok (.lstore 5, 2)) (hi : 5 + 1 < M.2.2.1) (hno : nl (some a4) = true) (k : AW Z M d kc ks (pc + 2) (a0 :: a1 :: a2 :: a3 :: a4 :: some (vL x) :: none :: t) st G) : AW Z M d kc ks pc (a0 :: a1 :: a2 :: a3 :: a4 :: a5 :: a6 :: t) (vL x :: st) G := aw_lstore hd hi hno k
theorem aw_istore6 {Z : aZ} {M : aMD} {d kc ks pc : Nat} {a0 a1 a2 a3 a4 a5 a6 : Option aV} {t : List (Option aV)} {st : List aV} {G : aG} {x : Int} (hd : decode M.2.1 pc = .ok (.istore 6, 2)) (hi : 6 < M.2.2.1) (hno : nl (some a5) = true) (k : AW Z M d kc ks (pc + 2) (a0 :: a1 :: a2 :: a3 :: a4 :: a5 :: some (vI x) :: t) st G) : AW Z M d kc ks pc (a0 :: a1 :: a2 :: a3 :: a4 :: a5 :: a6 :: t) (vI x :: st) G := aw_istore hd hi hno k
theorem aw_astore6 {Z : aZ} {M : aMD} {d kc ks pc : Nat} {a0 a1 a2 a3 a4 a5 a6 : Option aV} {t : List (Option aV)} {st : List aV} {G : aG} {x : Int} (hd : decode M.2.1 pc = .ok (.astore 6, 2)) (hi : 6 < M.2.2.1) (hno : nl (some a5) = true) (k : AW Z M d kc ks (pc + 2) (a0 :: a1 :: a2 :: a3 :: a4 :: a5 :: some (vR x) :: t) st G) : AW Z M d kc ks pc (a0 :: a1 :: a2 :: a3 :: a4 :: a5 :: a6 :: t) (vR x :: st) G := aw_astore hd hi hno k
theorem aw_iinc6 {Z : aZ} {M : aMD} {d kc ks pc : Nat} {a0 a1 a2 a3 a4 a5 : Option aV} {t : List (Option aV)} {st : List aV} {G : aG} {n x : Int} (hd : decode M.2.1 pc = .ok (.iinc 6 n, 3)) (hi : 6 < M.2.2.1) (hn : -128 ≤ n ∧ n < 128) (hno : nl (some a5) = true) (k : AW Z M d kc ks (pc + 3) (a0 :: a1 :: a2 :: a3 :: a4 :: a5 :: some (vI (w32 (x + n))) :: t) st G) : AW Z M d kc ks pc (a0 :: a1 :: a2 :: a3 :: a4 :: a5 :: some (vI x) :: t) st G := aw_iinc hd rfl hi hn hno k
theorem aw_lstore6 {Z : aZ} {M : aMD} {d kc ks pc : Nat} {a0 a1 a2 a3 a4 a5 a6 a7 : Option aV} {t : List (Option aV)} {st : List aV} {G : aG} {x : Int} (hd : decode M.2.1 pc = .ok (.lstore 6, 2)) (hi : 6 + 1 < M.2.2.1) (hno : nl (some a5) = true) (k : AW Z M d kc ks (pc + 2) (a0 :: a1 :: a2 :: a3 :: a4 :: a5 :: some (vL x) :: none :: t) st G) : AW Z M d kc ks pc (a0 :: a1 :: a2 :: a3 :: a4 :: a5 :: a6 :: a7 :: t) (vL x :: st) G := aw_lstore hd hi hno k
theorem aw_istore7 {Z : aZ} {M : aMD} {d kc ks pc : Nat} {a0 a1 a2 a3 a4 a5 a6 a7 : Option aV} {t : List (Option aV)} {st : List aV} {G : aG} {x : Int} (hd : decode M.2.1 pc = .ok (.istore 7, 2)) (hi : 7 < M.2.2.1) (hno : nl (some a6) = true) (k : AW Z M d kc ks (pc + 2) (a0 :: a1 :: a2 :: a3 :: a4 :: a5 :: a6 :: some (vI x) :: t) st G) : AW Z M d kc ks pc (a0 :: a1 :: a2 :: a3 :: a4 :: a5 :: a6 :: a7 :: t) (vI x :: st) G := aw_istore hd hi hno k
theorem aw_astore7 {Z : aZ} {M : aMD} {d kc ks pc : Nat} {a0 a1 a2 a3 a4 a5 a6 a7 : Option aV} {t : List (Option aV)} {st : List aV} {G : aG} {x : Int} (hd : decode M.2.1 pc = .ok (.astore 7, 2)) (hi : 7 < M.2.2.1) (hno : nl (some a6) = true) (k : AW Z M d kc ks (pc + 2) (a0 :: a1 :: a2 :: a3 :: a4 :: a5 :: a6 :: some (vR x) :: t) st G) : AW Z M d kc ks pc (a0 :: a1 :: a2 :: a3 :: a4 :: a5 :: a6 :: a7 :: t) (vR x :: st) G := aw_astore hd hi hno k
theorem aw_iinc7 {Z : aZ} {M : aMD} {d kc ks pc : Nat} {a0 a1 a2 a3 a4 a5 a6 : Option aV} {t : List (Option aV)} {st : List aV} {G : aG} {n x : Int} (hd : decode M.2.1 pc = .ok (.iinc 7 n, 3)) (hi : 7 < M.2.2.1) (hn : -128 ≤ n ∧ n < 128) (hno : nl (some a6) = true) (k : AW Z M d kc ks (pc + 3) (a0 :: a1 :: a2 :: a3 :: a4 :: a5 :: a6 :: some (vI (w32 (x + n))) :: t) st G) : AW Z M d kc ks pc (a0 :: a1 :: a2 :: a3 :: a4 :: a5 :: a6 :: some (vI x) :: t) st G := aw_iinc hd rfl hi hn hno k
theorem aw_lstore7 {Z : aZ} {M : aMD} {d kc ks pc : Nat} {a0 a1 a2 a3 a4 a5 a6 a7 a8 : Option aV} {t : List (Option aV)} {st : List aV} {G : aG} {x : Int} (hd : decode M.2.1 pc = .ok (.lstore 7, 2)) (hi : 7 + 1 < M.2.2.1) (hno : nl (some a6) = true) (k : AW Z M d kc ks (pc + 2) (a0 :: a1 :: a2 :: a3 :: a4 :: a5 :: a6 :: some (vL x) :: none :: t) st G) : AW Z M d kc ks pc (a0 :: a1 :: a2 :: a3 :: a4 :: a5 :: a6 :: a7 :: a8 :: t) (vL x :: st) G := aw_lstore hd hi hno k
theorem aw_istore8 {Z : aZ} {M : aMD} {d kc ks pc : Nat} {a0 a1 a2 a3 a4 a5 a6 a7 a8 : Option aV} {t : List (Option aV)} {st : List aV} {G : aG} {x : Int} (hd : decode M.2.1 pc = .ok (.istore 8, 2)) (hi : 8 < M.2.2.1) (hno : nl (some a7) = true) (k : AW Z M d kc ks (pc + 2) (a0 :: a1 :: a2 :: a3 :: a4 :: a5 :: a6 :: a7 :: some (vI x) :: t) st G) : AW Z M d kc ks pc (a0 :: a1 :: a2 :: a3 :: a4 :: a5 :: a6 :: a7 :: a8 :: t) (vI x :: st) G := aw_istore hd hi hno k
theorem aw_astore8 {Z : aZ} {M : aMD} {d kc ks pc : Nat} {a0 a1 a2 a3 a4 a5 a6 a7 a8 : Option aV} {t : List (Option aV)} {st : List aV} {G : aG} {x : Int} (hd : decode M.2.1 pc = .ok (.astore 8, 2)) (hi : 8 < M.2.2.1) (hno : nl (some a7) = true) (k : AW Z M d kc ks (pc + 2) (a0 :: a1 :: a2 :: a3 :: a4 :: a5 :: a6 :: a7 :: some (vR x) :: t) st G) : AW Z M d kc ks pc (a0 :: a1 :: a2 :: a3 :: a4 :: a5 :: a6 :: a7 :: a8 :: t) (vR x :: st) G := aw_astore hd hi hno k
theorem aw_iinc8 {Z : aZ} {M : aMD} {d kc ks pc : Nat} {a0 a1 a2 a3 a4 a5 a6 a7 : Option aV} {t : List (Option aV)} {st : List aV} {G : aG} {n x : Int} (hd : decode M.2.1 pc = .ok (.iinc 8 n, 3)) (hi : 8 < M.2.2.1) (hn : -128 ≤ n ∧ n < 128) (hno : nl (some a7) = true) (k : AW Z M d kc ks (pc + 3) (a0 :: a1 :: a2 :: a3 :: a4 :: a5 :: a6 :: a7 :: some (vI (w32 (x + n))) :: t) st G) : AW Z M d kc ks pc (a0 :: a1 :: a2 :: a3 :: a4 :: a5 :: a6 :: a7 :: some (vI x) :: t) st G := aw_iinc hd rfl hi hn hno k
theorem aw_lstore8 {Z : aZ} {M : aMD} {d kc ks pc : Nat} {a0 a1 a2 a3 a4 a5 a6 a7 a8 a9 : Option aV} {t : List (Option aV)} {st : List aV} {G : aG} {x : Int} (hd : decode M.2.1 pc = .ok (.lstore 8, 2)) (hi : 8 + 1 < M.2.2.1) (hno : nl (some a7) = true) (k : AW Z M d kc ks (pc + 2) (a0 :: a1 :: a2 :: a3 :: a4 :: a5 :: a6 :: a7 :: some (vL x) :: none :: t) st G) : AW Z M d kc ks pc (a0 :: a1 :: a2 :: a3 :: a4 :: a5 :: a6 :: a7 :: a8 :: a9 :: t) (vL x :: st) G := aw_lstore hd hi hno k
theorem aw_istore9 {Z : aZ} {M : aMD} {d kc ks pc : Nat} {a0 a1 a2 a3 a4 a5 a6 a7 a8 a9 : Option aV} {t : List (Option aV)} {st : List aV} {G : aG} {x : Int} (hd : decode M.2.1 pc = .ok (.istore 9, 2)) (hi : 9 < M.2.2.1) (hno : nl (some a8) = true) (k : AW Z M d kc ks (pc + 2) (a0 :: a1 :: a2 :: a3 :: a4 :: a5 :: a6 :: a7 :: a8 :: some (vI x) :: t) st G) : AW Z M d kc ks pc (a0 :: a1 :: a2 :: a3 :: a4 :: a5 :: a6 :: a7 :: a8 :: a9 :: t) (vI x :: st) G := aw_istore hd hi hno k
theorem aw_astore9 {Z : aZ} {M : aMD} {d kc ks pc : Nat} {a0 a1 a2 a3 a4 a5 a6 a7 a8 a9 : Option aV} {t : List (Option aV)} {st : List aV} {G : aG} {x : Int} (hd : decode M.2.1 pc = .ok (.astore 9, 2)) (hi : 9 < M.2.2.1) (hno : nl (some a8) = true) (k : AW Z M d kc ks (pc + 2) (a0 :: a1 :: a2 :: a3 :: a4 :: a5 :: a6 :: a7 :: a8 :: some (vR x) :: t) st G) : AW Z M d kc ks pc (a0 :: a1 :: a2 :: a3 :: a4 :: a5 :: a6 :: a7 :: a8 :: a9 :: t) (vR x :: st) G := aw_astore hd hi hno k
theorem aw_iinc9 {Z : aZ} {M : aMD} {d kc ks pc : Nat} {a0 a1 a2 a3 a4 a5 a6 a7 a8 : Option aV} {t : List (Option aV)} {st : List aV} {G : aG} {n x : Int} (hd : decode M.2.1 pc = .ok (.iinc 9 n, 3)) (hi : 9 < M.2.2.1) (hn : -128 ≤ n ∧ n < 128) (hno : nl (some a8) = true) (k : AW Z M d kc ks (pc + 3) (a0 :: a1 :: a2 :: a3 :: a4 :: a5 :: a6 :: a7 :: a8 :: some (vI (w32 (x + n))) :: t) st G) : AW Z M d kc ks pc (a0 :: a1 :: a2 :: a3 :: a4 :: a5 :: a6 :: a7 :: a8 :: some (vI x) :: t) st G := aw_iinc hd rfl hi hn hno k
theorem aw_lstore9 {Z : aZ} {M : aMD} {d kc ks pc : Nat} {a0 a1 a2 a3 a4 a5 a6 a7 a8 a9 a10 : Option aV} {t : List (Option aV)} {st : List aV} {G : aG} {x : Int} (hd : decode M.2.1 pc = .ok (.lstore 9, 2)) (hi : 9 + 1 < M.2.2.1) (hno : nl (some a8) = true) (k : AW Z M d kc ks (pc + 2) (a0 :: a1 :: a2 :: a3 :: a4 :: a5 :: a6 :: a7 :: a8 :: some (vL x) :: none :: t) st G) : AW Z M d kc ks pc (a0 :: a1 :: a2 :: a3 :: a4 :: a5 :: a6 :: a7 :: a8 :: a9 :: a10 :: t) (vL x :: st) G := aw_lstore hd hi hno k
theorem aw_istore10 {Z : aZ} {M : aMD} {d kc ks pc : Nat} {a0 a1 a2 a3 a4 a5 a6 a7 a8 a9 a10 : Option aV} {t : List (Option aV)} {st : List aV} {G : aG} {x : Int} (hd : decode M.2.1 pc = .ok (.istore 10, 2)) (hi : 10 < M.2.2.1) (hno : nl (some a9) = true) (k : AW Z M d kc ks (pc + 2) (a0 :: a1 :: a2 :: a3 :: a4 :: a5 :: a6 :: a7 :: a8 :: a9 :: some (vI x) :: t) st G) : AW Z M d kc ks pc (a0 :: a1 :: a2 :: a3 :: a4 :: a5 :: a6 :: a7 :: a8 :: a9 :: a10 :: t) (vI x :: st) G := aw_istore hd hi hno k
theorem aw_astore10 {Z : aZ} {M : aMD} {d kc ks pc : Nat} {a0 a1 a2 a3 a4 a5 a6 a7 a8 a9 a10 : Option aV} {t : List (Option aV)} {st : List aV} {G : aG} {x : Int} (hd : decode M.2.1 pc = .ok (.astore 10, 2)) (hi : 10 < M.2.2.1) (hno : nl (some a9) = true) (k : AW Z M d kc ks (pc + 2) (a0 :: a1 :: a2 :: a3 :: a4 :: a5 :: a6 :: a7 :: a8 :: a9 :: some (vR x) :: t) st G) : AW Z M d kc ks pc (a0 :: a1 :: a2 :: a3 :: a4 :: a5 :: a6 :: a7 :: a8 :: a9 :: a10 :: t) (vR x :: st) G := aw_astore hd hi hno k
theorem aw_iinc10 {Z : aZ} {M : aMD} {d kc ks pc : Nat} {a0 a1 a2 a3 a4 a5 a6 a7 a8 a9 : Option aV} {t : List (Option aV)} {st : List aV} {G : aG} {n x : Int} (hd : decode M.2.1 pc = .ok (.iinc 10 n, 3)) (hi : 10 < M.2.2.1) (hn : -128 ≤ n ∧ n < 128) (hno : nl (some a9) = true) (k : AW Z M d kc ks (pc + 3) (a0 :: a1 :: a2 :: a3 :: a4 :: a5 :: a6 :: a7 :: a8 :: a9 :: some (vI (w32 (x + n))) :: t) st G) : AW Z M d kc ks pc (a0 :: a1 :: a2 :: a3 :: a4 :: a5 :: a6 :: a7 :: a8 :: a9 :: some (vI x) :: t) st G := aw_iinc hd rfl hi hn hno k
theorem aw_lstore10 {Z : aZ} {M : aMD} {d kc ks pc : Nat} {a0 a1 a2 a3 a4 a5 a6 a7 a8 a9 a10 a11 : Option aV} {t : List (Option aV)} {st : List aV} {G : aG} {x : Int} (hd : decode M.2.1 pc = .ok (.lstore 10, 2)) (hi : 10 + 1 < M.2.2.1) (hno : nl (some a9) = true) (k : AW Z M d kc ks (pc + 2) (a0 :: a1 :: a2 :: a3 :: a4 :: a5 :: a6 :: a7 :: a8 :: a9 :: some (vL x) :: none :: t) st G) : AW Z M d kc ks pc (a0 :: a1 :: a2 :: a3 :: a4 :: a5 :: a6 :: a7 :: a8 :: a9 :: a10 :: a11 :: t) (vL x :: st) G := aw_lstore hd hi hno k
theorem aw_istore11 {Z : aZ} {M : aMD} {d kc ks pc : Nat} {a0 a1 a2 a3 a4 a5 a6 a7 a8 a9 a10 a11 : Option aV} {t : List (Option aV)} {st : List aV} {G : aG} {x : Int} (hd : decode M.2.1 pc = .ok (.istore 11, 2)) (hi : 11 < M.2.2.1) (hno : nl (some a10) = true) (k : AW Z M d kc ks (pc + 2) (a0 :: a1 :: a2 :: a3 :: a4 :: a5 :: a6 :: a7 :: a8 :: a9 :: a10 :: some (vI x) :: t) st G) : AW Z M d kc ks pc (a0 :: a1 :: a2 :: a3 :: a4 :: a5 :: a6 :: a7 :: a8 :: a9 :: a10 :: a11 :: t) (vI x :: st) G := aw_istore hd hi hno k
theorem aw_astore11 {Z : aZ} {M : aMD} {d kc ks pc : Nat} {a0 a1 a2 a3 a4 a5 a6 a7 a8 a9 a10 a11 : Option aV} {t : List (Option aV)} {st : List aV} {G : aG} {x : Int} (hd : decode M.2.1 pc = .ok (.astore 11, 2)) (hi : 11 < M.2.2.1) (hno : nl (some a10) = true) (k : AW Z M d kc ks (pc + 2) (a0 :: a1 :: a2 :: a3 :: a4 :: a5 :: a6 :: a7 :: a8 :: a9 :: a10 :: some (vR x) :: t) st G) : AW Z M d kc ks pc (a0 :: a1 :: a2 :: a3 :: a4 :: a5 :: a6 :: a7 :: a8 :: a9 :: a10 :: a11 :: t) (vR x :: st) G := aw_astore hd hi hno k
theorem aw_iinc11 {Z : aZ} {M : aMD} {d kc ks pc : Nat} {a0 a1 a2 a3 a4 a5 a6 a7 a8 a9 a10 : Option aV} {t : List (Option aV)} {st : List aV} {G : aG} {n x : Int} (hd : decode M.2.1 pc = .ok (.iinc 11 n, 3)) (hi : 11 < M.2.2.1) (hn : -128 ≤ n ∧ n < 128) (hno : nl (some a10) = true) (k : AW Z M d kc ks (pc + 3) (a0 :: a1 :: a2 :: a3 :: a4 :: a5 :: a6 :: a7 :: a8 :: a9 :: a10 :: some (vI (w32 (x + n))) :: t) st G) : AW Z M d kc ks pc (a0 :: a1 :: a2 :: a3 :: a4 :: a5 :: a6 :: a7 :: a8 :: a9 :: a10 :: some (vI x) :: t) st G := aw_iinc hd rfl hi hn hno k
theorem aw_lstore11 {Z : aZ} {M : aMD} {d kc ks pc : Nat} {a0 a1 a2 a3 a4 a5 a6 a7 a8 a9 a10 a11 a12 : Option aV} {t : List (Option aV)} {st : List aV} {G : aG} {x : Int} (hd : decode M.2.1 pc = .ok (.lstore 11, 2)) (hi : 11 + 1 < M.2.2.1) (hno : nl (some a10) = true) (k : AW Z M d kc ks (pc + 2) (a0 :: a1 :: a2 :: a3 :: a4 :: a5 :: a6 :: a7 :: a8 :: a9 :: a10 :: some (vL x) :: none :: t) st G) : AW Z M d kc ks pc (a0 :: a1 :: a2 :: a3 :: a4 :: a5 :: a6 :: a7 :: a8 :: a9 :: a10 :: a11 :: a12 :: t) (vL x :: st) G := aw_lstore hd hi hno k
theorem aw_istore12 {Z : aZ} {M : aMD} {d kc ks pc : Nat} {a0 a1 a2 a3 a4 a5 a6 a7 a8 a9 a10 a11 a12 : Option aV} {t : List (Option aV)} {st : List aV} {G : aG} {x : Int} (hd : decode M.2.1 pc = .ok (.istore 12, 2)) (hi : 12 < M.2.2.1) (hno : nl (some a11) = true) (k : AW Z M d kc ks (pc + 2) (a0 :: a1 :: a2 :: a3 :: a4 :: a5 :: a6 :: a7 :: a8 :: a9 :: a10 :: a11 :: some (vI x) :: t) st G) : AW Z M d kc ks pc (a0 :: a1 :: a2 :: a3 :: a4 :: a5 :: a6 :: a7 :: a8 :: a9 :: a10 :: a11 :: a12 :: t) (vI x :: st) G := aw_istore hd hi hno k
theorem aw_astore12 {Z : aZ} {M : aMD} {d kc ks pc : Nat} {a0 a1 a2 a3 a4 a5 a6 a7 a8 a9 a10 a11 a12 : Option aV} {t : List (Option aV)} {st : List aV} {G : aG} {x : Int} (hd : decode M.2.1 pc = .ok (.astore 12, 2)) (hi : 12 < M.2.2.1) (hno : nl (some a11) = true) (k : AW Z M d kc ks (pc + 2) (a0 :: a1 :: a2 :: a3 :: a4 :: a5 :: a6 :: a7 :: a8 :: a9 :: a10 :: a11 :: some (vR x) :: t) st G) : AW Z M d kc ks pc (a0 :: a1 :: a2 :: a3 :: a4 :: a5 :: a6 :: a7 :: a8 :: a9 :: a10 :: a11 :: a12 :: t) (vR x :: st) G := aw_astore hd hi hno k
theorem aw_iinc12 {Z : aZ} {M : aMD} {d kc ks pc : Nat} {a0 a1 a2 a3 a4 a5 a6 a7 a8 a9 a10 a11 : Option aV} {t : List (Option aV)} {st : List aV} {G : aG} {n x : Int} (hd : decode M.2.1 pc = .ok (.iinc 12 n, 3)) (hi : 12 < M.2.2.1) (hn : -128 ≤ n ∧ n < 128) (hno : nl (some a11) = true) (k : AW Z M d kc ks (pc + 3) (a0 :: a1 :: a2 :: a3 :: a4 :: a5 :: a6 :: a7 :: a8 :: a9 :: a10 :: a11 :: some (vI (w32 (x + n))) :: t) st G) : AW Z M d kc ks pc (a0 :: a1 :: a2 :: a3 :: a4 :: a5 :: a6 :: a7 :: a8 :: a9 :: a10 :: a11 :: some (vI x) :: t) st G := aw_iinc hd rfl hi hn hno k
theorem aw_lstore12 {Z : aZ} {M : aMD} {d kc ks pc : Nat} {a0 a1 a2 a3 a4 a5 a6 a7 a8 a9 a10 a11 a12 a13 : Option aV} {t : List (Option aV)} {st : List aV} {G : aG} {x : Int} (hd : decode M.2.1 pc = .ok (.lstore 12, 2)) (hi : 12 + 1 < M.2.2.1) (hno : nl (some a11) = true) (k : AW Z M d kc ks (pc + 2) (a0 :: a1 :: a2 :: a3 :: a4 :: a5 :: a6 :: a7 :: a8 :: a9 :: a10 :: a11 :: some (vL x) :: none :: t) st G) : AW Z M d kc ks pc (a0 :: a1 :: a2 :: a3 :: a4 :: a5 :: a6 :: a7 :: a8 :: a9 :: a10 :: a11 :: a12 :: a13 :: t) (vL x :: st) G := aw_lstore hd hi hno k
theorem aw_istore13 {Z : aZ} {M : aMD} {d kc ks pc : Nat} {a0 a1 a2 a3 a4 a5 a6 a7 a8 a9 a10 a11 a12 a13 : Option aV} {t : List (Option aV)} {st : List aV} {G : aG} {x : Int} (hd : decode M.2.1 pc = .ok (.istore 13, 2)) (hi : 13 < M.2.2.1) (hno : nl (some a12) = true) (k : AW Z M d kc ks (pc + 2) (a0 :: a1 :: a2 :: a3 :: a4 :: a5 :: a6 :: a7 :: a8 :: a9 :: a10 :: a11 :: a12 :: some (vI x) :: t) st G) : AW Z M d kc ks pc (a0 :: a1 :: a2 :: a3 :: a4 :: a5 :: a6 :: a7 :: a8 :: a9 :: a10 :: a11 :: a12 :: a13 :: t) (vI x :: st) G := aw_istore hd hi hno k
theorem aw_astore13 {Z : aZ} {M : aMD} {d kc ks pc : Nat} {a0 a1 a2 a3 a4 a5 a6 a7 a8 a9 a10 a11 a12 a13 : Option aV} {t : List (Option aV)} {st : List aV} {G : aG} {x : Int} (hd : decode M.2.1 pc = .ok (.astore 13, 2)) (hi : 13 < M.2.2.1) (hno : nl (some a12) = true) (k : AW Z M d kc ks (pc + 2) (a0 :: a1 :: a2 :: a3 :: a4 :: a5 :: a6 :: a7 :: a8 :: a9 :: a10 :: a11 :: a12 :: some (vR x) :: t) st G) : AW Z M d kc ks pc (a0 :: a1 :: a2 :: a3 :: a4 :: a5 :: a6 :: a7 :: a8 :: a9 :: a10 :: a11 :: a12 :: a13 :: t) (vR x :: st) G := aw_astore hd hi hno k
theorem aw_iinc13 {Z : aZ} {M : aMD} {d kc ks pc : Nat} {a0 a1 a2 a3 a4 a5 a6 a7 a8 a9 a10 a11 a12 : Option aV} {t : List (Option aV)} {st : List aV} {G : aG} {n x : Int} (hd : decode M.2.1 pc = .ok (.iinc 13 n, 3)) (hi : 13 < M.2.2.1) (hn : -128 ≤ n ∧ n < 128) (hno : nl (some a12) = true) (k : AW Z M d kc ks (pc + 3) (a0 :: a1 :: a2 :: a3 :: a4 :: a5 :: a6 :: a7 :: a8 :: a9 :: a10 :: a11 :: a12 :: some (vI (w32 (x + n))) :: t) st G) : AW Z M d kc ks pc (a0 :: a1 :: a2 :: a3 :: a4 :: a5 :: a6 :: a7 :: a8 :: a9 :: a10 :: a11 :: a12 :: some (vI x) :: t) st G := aw_iinc hd rfl hi hn hno k
theorem aw_lstore13 {Z : aZ} {M : aMD} {d kc ks pc : Nat} {a0 a1 a2 a3 a4 a5 a6 a7 a8 a9 a10 a11 a12 a13 a14 : Option aV} {t : List (Option aV)} {st : List aV} {G : aG} {x : Int} (hd : decode M.2.1 pc = .ok (.lstore 13, 2)) (hi : 13 + 1 < M.2.2.1) (hno : nl (some a12) = true) (k : AW Z M d kc ks (pc + 2) (a0 :: a1 :: a2 :: a3 :: a4 :: a5 :: a6 :: a7 :: a8 :: a9 :: a10 :: a11 :: a12 :: some (vL x) :: none :: t) st G) : AW Z M d kc ks pc (a0 :: a1 :: a2 :: a3 :: a4 :: a5 :: a6 :: a7 :: a8 :: a9 :: a10 :: a11 :: a12 :: a13 :: a14 :: t) (vL x :: st) G := aw_lstore hd hi hno k
theorem aw_istore14 {Z : aZ} {M : aMD} {d kc ks pc : Nat} {a0 a1 a2 a3 a4 a5 a6 a7 a8 a9 a10 a11 a12 a13 a14 : Option aV} {t : List (Option aV)} {st : List aV} {G : aG} {x : Int} (hd : decode M.2.1 pc = .ok (.istore 14, 2)) (hi : 14 < M.2.2.1) (hno : nl (some a13) = true) (k : AW Z M d kc ks (pc + 2) (a0 :: a1 :: a2 :: a3 :: a4 :: a5 :: a6 :: a7 :: a8 :: a9 :: a10 :: a11 :: a12 :: a13 :: some (vI x) :: t) st G) : AW Z M d kc ks pc (a0 :: a1 :: a2 :: a3 :: a4 :: a5 :: a6 :: a7 :: a8 :: a9 :: a10 :: a11 :: a12 :: a13 :: a14 :: t) (vI x :: st) G := aw_istore hd hi hno k
theorem aw_astore14 {Z : aZ} {M : aMD} {d kc ks pc : Nat} {a0 a1 a2 a3 a4 a5 a6 a7 a8 a9 a10 a11 a12 a13 a14 : Option aV} {t : List (Option aV)} {st : List aV} {G : aG} {x : Int} (hd : decode M.2.1 pc = .ok (.astore 14, 2)) (hi : 14 < M.2.2.1) (hno : nl (some a13) = true) (k : AW Z M d kc ks (pc + 2) (a0 :: a1 :: a2 :: a3 :: a4 :: a5 :: a6 :: a7 :: a8 :: a9 :: a10 :: a11 :: a12 :: a13 :: some (vR x) :: t) st G) : AW Z M d kc ks pc (a0 :: a1 :: a2 :: a3 :: a4 :: a5 :: a6 :: a7 :: a8 :: a9 :: a10 :: a11 :: a12 :: a13 :: a14 :: t) (vR x :: st) G := aw_astore hd hi hno k
theorem aw_iinc14 {Z : aZ} {M : aMD} {d kc ks pc : Nat} {a0 a1 a2 a3 a4 a5 a6 a7 a8 a9 a10 a11 a12 a13 : Option aV} {t : List (Option aV)} {st : List aV} {G : aG} {n x : Int} (hd : decode M.2.1 pc = .ok (.iinc 14 n, 3)) (hi : 14 < M.2.2.1) (hn : -128 ≤ n ∧ n < 128) (hno : nl (some a13) = true) (k : AW Z M d kc ks (pc + 3) (a0 :: a1 :: a2 :: a3 :: a4 :: a5 :: a6 :: a7 :: a8 :: a9 :: a10 :: a11 :: a12 :: a13 :: some (vI (w32 (x + n))) :: t) st G) : AW Z M d kc ks pc (a0 :: a1 :: a2 :: a3 :: a4 :: a5 :: a6 :: a7 :: a8 :: a9 :: a10 :: a11 :: a12 :: a13 :: some (vI x) :: t) st G := aw_iinc hd rfl hi hn hno k
theorem aw_lstore14 {Z : aZ} {M : aMD} {d kc ks pc : Nat} {a0 a1 a2 a3 a4 a5 a6 a7 a8 a9 a10 a11 a12 a13 a14 a15 : Option aV} {t : List (Option aV)} {st : List aV} {G : aG} {x : Int} (hd : decode M.2.1 pc = .ok (.lstore 14, 2)) (hi : 14 + 1 < M.2.2.1) (hno : nl (some a13) = true) (k : AW Z M d kc ks (pc + 2) (a0 :: a1 :: a2 :: a3 :: a4 :: a5 :: a6 :: a7 :: a8 :: a9 :: a10 :: a11 :: a12 :: a13 :: some (vL x) :: none :: t) st G) : AW Z M d kc ks pc (a0 :: a1 :: a2 :: a3 :: a4 :: a5 :: a6 :: a7 :: a8 :: a9 :: a10 :: a11 :: a12 :: a13 :: a14 :: a15 :: t) (vL x :: st) G := aw_lstore hd hi hno k
theorem aw_istore15 {Z : aZ} {M : aMD} {d kc ks pc : Nat} {a0 a1 a2 a3 a4 a5 a6 a7 a8 a9 a10 a11 a12 a13 a14 a15 : Option aV} {t : List (Option aV)} {st : List aV} {G : aG} {x : Int} (hd : decode M.2.1 pc = .ok (.istore 15, 2)) (hi : 15 < M.2.2.1) (hno : nl (some a14) = true) (k : AW Z M d kc ks (pc + 2) (a0 :: a1 :: a2 :: a3 :: a4 :: a5 :: a6 :: a7 :: a8 :: a9 :: a10 :: a11 :: a12 :: a13 :: a14 :: some (vI x) :: t) st G) : AW Z M d kc ks pc (a0 :: a1 :: a2 :: a3 :: a4 :: a5 :: a6 :: a7 :: a8 :: a9 :: a10 :: a11 :: a12 :: a13 :: a14 :: a15 :: t) (vI x :: st) G := aw_istore hd hi hno k
theorem aw_astore15 {Z : aZ} {M : aMD} {d kc ks pc : Nat} {a0 a1 a2 a3 a4 a5 a6 a7 a8 a9 a10 a11 a12 a13 a14 a15 : Option aV} {t : List (Option aV)} {st : List aV} {G : aG} {x : Int} (hd : decode M.2.1 pc = .ok (.astore 15, 2)) (hi : 15 < M.2.2.1) (hno : nl (some a14) = true) (k : AW Z M d kc ks (pc + 2) (a0 :: a1 :: a2 :: a3 :: a4 :: a5 :: a6 :: a7 :: a8 :: a9 :: a10 :: a11 :: a12 :: a13 :: a14 :: some (vR x) :: t) st G) : AW Z M d kc ks pc (a0 :: a1 :: a2 :: a3 :: a4 :: a5 :: a6 :: a7 :: a8 :: a9 :: a10 :: a11 :: a12 :: a13 :: a14 :: a15 :: t) (vR x :: st) G := aw_astore hd hi hno k
theorem aw_iinc15 {Z : aZ} {M : aMD} {d kc ks pc : Nat} {a0 a1 a2 a3 a4 a5 a6 a7 a8 a9 a10 a11 a12 a13 a14 : Option aV} {t : List (Option aV)} {st : List aV} {G : aG} {n x : Int} (hd : decode M.2.1 pc = .ok (.iinc 15 n, 3)) (hi : 15 < M.2.2.1) (hn : -128 ≤ n ∧ n < 128) (hno : nl (some a14) = true) (k : AW Z M d kc ks (pc + 3) (a0 :: a1 :: a2 :: a3 :: a4 :: a5 :: a6 :: a7 :: a8 :: a9 :: a10 :: a11 :: a12 :: a13 :: a14 :: some (vI (w32 (x + n))) :: t) st G) : AW Z M d kc ks pc (a0 :: a1 :: a2 :: a3 :: a4 :: a5 :: a6 :: a7 :: a8 :: a9 :: a10 :: a11 :: a12 :: a13 :: a14 :: some (vI x) :: t) st G := aw_iinc hd rfl hi hn hno k
theorem aw_iadd {Z : aZ} {M : aMD} {d kc ks pc : Nat} {L : List (Option aV)} {st : List aV} {G : aG} {x y : Int} (hd : decode M.2.1 pc = .ok (.iadd, 1))  (k : AW Z M d kc ks (pc + 1) L (vI (w32 (x + y)) :: st) G) : AW Z M d kc ks pc L (vI y :: vI x :: st) G := by
  intro p l e R s m args below meth c D dA sA A ad0 sz0 mc ms C ad H locs cells slots ls rst hE hH hL hst hS hk1 hk2
  obtain ⟨hx, hb, hml, hown, hts, hret, hlk, hnm, htab, hR, hV, hA⟩ := id C
  obtain ⟨_, _, rfl, ⟨b, rfl, hb2⟩, _, rs, rfl, ⟨a, rfl, ha2⟩, hst⟩ := hst
  subst hb2; subst ha2
  refine lv_iadd hx hb hd ?_
  exact k p l e R s m args below meth c D dA sA A ad0 sz0 mc ms C ad H locs cells slots ls (.int _ :: rs) hE hH hL ⟨_, _, rfl, ⟨_, rfl, (i32_wadd a b).symm⟩, hst⟩ hS hk1 hk2
theorem aw_isub {Z : aZ} {M : aMD} {d kc ks pc : Nat} {L : List (Option aV)} {st : List aV} {G : aG} {x y : Int} (hd : decode M.2.1 pc = .ok (.isub, 1))  (k : AW Z M d kc ks (pc + 1) L (vI (w32 (x - y)) :: st) G) : AW Z M d kc ks pc L (vI y :: vI x :: st) G := by
  intro p l e R s m args below meth c D dA sA A ad0 sz0 mc ms C ad H locs cells slots ls rst hE hH hL hst hS hk1 hk2
  obtain ⟨hx, hb, hml, hown, hts, hret, hlk, hnm, htab, hR, hV, hA⟩ := id C
  obtain ⟨_, _, rfl, ⟨b, rfl, hb2⟩, _, rs, rfl, ⟨a, rfl, ha2⟩, hst⟩ := hst
  subst hb2; subst ha2
  refine lv_isub hx hb hd ?_
  exact k p l e R s m args below meth c D dA sA A ad0 sz0 mc ms C ad H locs cells slots ls (.int _ :: rs) hE hH hL ⟨_, _, rfl, ⟨_, rfl, (i32_wsub a b).symm⟩, hst⟩ hS hk1 hk2
theorem aw_imul {Z : aZ} {M : aMD} {d kc ks pc : Nat} {L : List (Option aV)} {st : List aV} {G : aG} {x y : Int} (hd : decode M.2.1 pc = .ok (.imul, 1))  (k : AW Z M d kc ks (pc + 1) L (vI (w32 (x * y)) :: st) G) : AW Z M d kc ks pc L (vI y :: vI x :: st) G := by
  intro p l e R s m args below meth c D dA sA A ad0 sz0 mc ms C ad H locs cells slots ls rst hE hH hL hst hS hk1 hk2
  obtain ⟨hx, hb, hml, hown, hts, hret, hlk, hnm, htab, hR, hV, hA⟩ := id C
  obtain ⟨_, _, rfl, ⟨b, rfl, hb2⟩, _, rs, rfl, ⟨a, rfl, ha2⟩, hst⟩ := hst
  subst hb2; subst ha2
  refine lv_imul hx hb hd ?_
  exact k p l e R s m args below meth c D dA sA A ad0 sz0 mc ms C ad H locs cells slots ls (.int _ :: rs) hE hH hL ⟨_, _, rfl, ⟨_, rfl, (i32_wmul a b).symm⟩, hst⟩ hS hk1 hk2
theorem aw_idiv {Z : aZ} {M : aMD} {d kc ks pc : Nat} {L : List (Option aV)} {st : List aV} {G : aG} {x y : Int} (hd : decode M.2.1 pc = .ok (.idiv, 1)) (hne : y ≠ 0) (k : AW Z M d kc ks (pc + 1) L (vI (w32 (x.tdiv y)) :: st) G) : AW Z M d kc ks pc L (vI y :: vI x :: st) G := by
  intro p l e R s m args below meth c D dA sA A ad0 sz0 mc ms C ad H locs cells slots ls rst hE hH hL hst hS hk1 hk2
  obtain ⟨hx, hb, hml, hown, hts, hret, hlk, hnm, htab, hR, hV, hA⟩ := id C
  obtain ⟨_, _, rfl, ⟨b, rfl, hb2⟩, _, rs, rfl, ⟨a, rfl, ha2⟩, hst⟩ := hst
  subst hb2; subst ha2
  refine lv_idiv hx hb hd (fun h => hne (by rw [h]; rfl)) ?_
  exact k p l e R s m args below meth c D dA sA A ad0 sz0 mc ms C ad H locs cells slots ls (.int _ :: rs) hE hH hL ⟨_, _, rfl, ⟨_, rfl, (i32_wdiv a b).symm⟩, hst⟩ hS hk1 hk2
theorem aw_irem {Z : aZ} {M : aMD} {d kc ks pc : Nat} {L : List (Option aV)} {st : List aV} {G : aG} {x y : Int} (hd : decode M.2.1 pc = .ok (.irem, 1)) (hne : y ≠ 0) (k : AW Z M d kc ks (pc + 1) L (vI (x.tmod y) :: st) G) : AW Z M d kc ks pc L (vI y :: vI x :: st) G := by
  intro p l e R s m args below meth c D dA sA A ad0 sz0 mc ms C ad H locs cells slots ls rst hE hH hL hst hS hk1 hk2
  obtain ⟨hx, hb, hml, hown, hts, hret, hlk, hnm, htab, hR, hV, hA⟩ := id C
  obtain ⟨_, _, rfl, ⟨b, rfl, hb2⟩, _, rs, rfl, ⟨a, rfl, ha2⟩, hst⟩ := hst
  subst hb2; subst ha2
  refine lv_irem hx hb hd (fun h => hne (by rw [h]; rfl)) ?_
  exact k p l e R s m args below meth c D dA sA A ad0 sz0 mc ms C ad H locs cells slots ls (.int _ :: rs) hE hH hL ⟨_, _, rfl, ⟨_, rfl, (i32_rem a b).symm⟩, hst⟩ hS hk1 hk2
theorem aw_ladd {Z : aZ} {M : aMD} {d kc ks pc : Nat} {L : List (Option aV)} {st : List aV} {G : aG} {x y : Int} (hd : decode M.2.1 pc = .ok (.ladd, 1))  (k : AW Z M d kc ks (pc + 1) L (vL (w64 (x + y)) :: st) G) : AW Z M d kc ks pc L (vL y :: vL x :: st) G := by
  intro p l e R s m args below meth c D dA sA A ad0 sz0 mc ms C ad H locs cells slots ls rst hE hH hL hst hS hk1 hk2
  obtain ⟨hx, hb, hml, hown, hts, hret, hlk, hnm, htab, hR, hV, hA⟩ := id C
  obtain ⟨_, _, rfl, ⟨b, rfl, hb2⟩, _, rs, rfl, ⟨a, rfl, ha2⟩, hst⟩ := hst
  subst hb2; subst ha2
  refine lv_ladd hx hb hd ?_
  exact k p l e R s m args below meth c D dA sA A ad0 sz0 mc ms C ad H locs cells slots ls (.long _ :: rs) hE hH hL ⟨_, _, rfl, ⟨_, rfl, (i64_wadd a b).symm⟩, hst⟩ hS hk1 hk2
theorem aw_lsub {Z : aZ} {M : aMD} {d kc ks pc : Nat} {L : List (Option aV)} {st : List aV} {G : aG} {x y : Int} (hd : decode M.2.1 pc = .ok (.lsub, 1))  (k : AW Z M d kc ks (pc + 1) L (vL (w64 (x - y)) :: st) G) : AW Z M d kc ks pc L (vL y :: vL x :: st) G := by
  intro p l e R s m args below meth c D dA sA A ad0 sz0 mc ms C ad H locs cells slots ls rst hE hH hL hst hS hk1 hk2
  obtain ⟨hx, hb, hml, hown, hts, hret, hlk, hnm, htab, hR, hV, hA⟩ := id C
  obtain ⟨_, _, rfl, ⟨b, rfl, hb2⟩, _, rs, rfl, ⟨a, rfl, ha2⟩, hst⟩ := hst
  subst hb2; subst ha2
  refine lv_lsub hx hb hd ?_
  exact k p l e R s m args below meth c D dA sA A ad0 sz0 mc ms C ad H locs cells slots ls (.long _ :: rs) hE hH hL ⟨_, _, rfl, ⟨_, rfl, (i64_wsub a b).symm⟩, hst⟩ hS hk1 hk2
theorem aw_lmul {Z : aZ} {M : aMD} {d kc ks pc : Nat} {L : List (Option aV)} {st : List aV} {G : aG} {x y : Int} (hd : decode M.2.1 pc = .ok (.lmul, 1))  (k : AW Z M d kc ks (pc + 1) L (vL (w64 (x * y)) :: st) G) : AW Z M d kc ks pc L (vL y :: vL x :: st) G := by
  intro p l e R s m args below meth c D dA sA A ad0 sz0 mc ms C ad H locs cells slots ls rst hE hH hL hst hS hk1 hk2
  obtain ⟨hx, hb, hml, hown, hts, hret, hlk, hnm, htab, hR, hV, hA⟩ := id C
  obtain ⟨_, _, rfl, ⟨b, rfl, hb2⟩, _, rs, rfl, ⟨a, rfl, ha2⟩, hst⟩ := hst
  subst hb2; subst ha2
  refine lv_lmul hx hb hd ?_
  exact k p l e R s m args below meth c D dA sA A ad0 sz0 mc ms C ad H locs cells slots ls (.long _ :: rs) hE hH hL ⟨_, _, rfl, ⟨_, rfl, (i64_wmul a b).symm⟩, hst⟩ hS hk1 hk2
theorem aw_ldiv {Z : aZ} {M : aMD} {d kc ks pc : Nat} {L : List (Option aV)} {st : List aV} {G : aG} {x y : Int} (hd : decode M.2.1 pc = .ok (.ldiv, 1)) (hne : y ≠ 0) (k : AW Z M d kc ks (pc + 1) L (vL (w64 (x.tdiv y)) :: st) G) : AW Z M d kc ks pc L (vL y :: vL x :: st) G := by
  intro p l e R s m args below meth c D dA sA A ad0 sz0 mc ms C ad H locs cells slots ls rst hE hH hL hst hS hk1 hk2
  obtain ⟨hx, hb, hml, hown, hts, hret, hlk, hnm, htab, hR, hV, hA⟩ := id C
  obtain ⟨_, _, rfl, ⟨b, rfl, hb2⟩, _, rs, rfl, ⟨a, rfl, ha2⟩, hst⟩ := hst
  subst hb2; subst ha2
  refine lv_ldiv hx hb hd (fun h => hne (by rw [h]; rfl)) ?_
  exact k p l e R s m args below meth c D dA sA A ad0 sz0 mc ms C ad H locs cells slots ls (.long _ :: rs) hE hH hL ⟨_, _, rfl, ⟨_, rfl, (i64_wdiv a b).symm⟩, hst⟩ hS hk1 hk2
theorem aw_lrem {Z : aZ} {M : aMD} {d kc ks pc : Nat} {L : List (Option aV)} {st : List aV} {G : aG} {x y : Int} (hd : decode M.2.1 pc = .ok (.lrem, 1)) (hne : y ≠ 0) (k : AW Z M d kc ks (pc + 1) L (vL (x.tmod y) :: st) G) : AW Z M d kc ks pc L (vL y :: vL x :: st) G := by
  intro p l e R s m args below meth c D dA sA A ad0 sz0 mc ms C ad H locs cells slots ls rst hE hH hL hst hS hk1 hk2
  obtain ⟨hx, hb, hml, hown, hts, hret, hlk, hnm, htab, hR, hV, hA⟩ := id C
  obtain ⟨_, _, rfl, ⟨b, rfl, hb2⟩, _, rs, rfl, ⟨a, rfl, ha2⟩, hst⟩ := hst
  subst hb2; subst ha2
  refine lv_lrem hx hb hd (fun h => hne (by rw [h]; rfl)) ?_
  exact k p l e R s m args below meth c D dA sA A ad0 sz0 mc ms C ad H locs cells slots ls (.long _ :: rs) hE hH hL ⟨_, _, rfl, ⟨_, rfl, (i64_rem a b).symm⟩, hst⟩ hS hk1 hk2
def iand32 (x y : Int) : Int := (Int32.ofInt x &&& Int32.ofInt y).toInt
def ior32 (x y : Int) : Int := (Int32.ofInt x ||| Int32.ofInt y).toInt
def ishl32 (x y : Int) : Int := (Int32.ofInt x <<< (Int32.ofInt y &&& 31)).toInt
def ishr32 (x y : Int) : Int := (Int32.ofInt x >>> (Int32.ofInt y &&& 31)).toInt
def land64 (x y : Int) : Int := (Int64.ofInt x &&& Int64.ofInt y).toInt
def lor64 (x y : Int) : Int := (Int64.ofInt x ||| Int64.ofInt y).toInt
def lshl64 (x y : Int) : Int := (Int64.ofInt x <<< ((Int32.ofInt y).toInt64 &&& 63)).toInt
def lshr64 (x y : Int) : Int := (Int64.ofInt x >>> ((Int32.ofInt y).toInt64 &&& 63)).toInt
def lushr64 (x y : Int) : Int := ((Int64.ofInt x).toUInt64 >>> ((Int32.ofInt y).toInt64.toUInt64 &&& Int64.toUInt64 63)).toInt64.toInt
theorem i32_ofToInt (r : Int32) : Int32.ofInt r.toInt = r := by first | exact Int32.ofInt_toInt r | simp
theorem i64_ofToInt (r : Int64) : Int64.ofInt r.toInt = r := by first | exact Int64.ofInt_toInt r | simp
theorem aw_iand {Z : aZ} {M : aMD} {d kc ks pc : Nat} {L : List (Option aV)} {st : List aV} {G : aG} {x y : Int} (hd : decode M.2.1 pc = .ok (.iand, 1))  (k : AW Z M d kc ks (pc + 1) L (vI (iand32 x y) :: st) G) : AW Z M d kc ks pc L (vI y :: vI x :: st) G := by
  intro p l e R s m args below meth c D dA sA A ad0 sz0 mc ms C ad H locs cells slots ls rst hE hH hL hst hS hk1 hk2
  obtain ⟨hx, hb, hml, hown, hts, hret, hlk, hnm, htab, hR, hV, hA⟩ := id C
  obtain ⟨_, _, rfl, ⟨b, rfl, hb2⟩, _, rs, rfl, ⟨a, rfl, ha2⟩, hst⟩ := hst
  subst hb2; subst ha2
  refine lv_iand hx hb hd ?_
  exact k p l e R s m args below meth c D dA sA A ad0 sz0 mc ms C ad H locs cells slots ls (.int _ :: rs) hE hH hL ⟨_, _, rfl, ⟨_, rfl, by unfold iand32; rw [i32_ofToInt, i32_ofToInt]⟩, hst⟩ hS hk1 hk2
theorem aw_ior {Z : aZ} {M : aMD} {d kc ks pc : Nat} {L : List (Option aV)} {st : List aV} {G : aG} {x y : Int} (hd : decode M.2.1 pc = .ok (.ior, 1))  (k : AW Z M d kc ks (pc + 1) L (vI (ior32 x y) :: st) G) : AW Z M d kc ks pc L (vI y :: vI x :: st) G := by
  intro p l e R s m args below meth c D dA sA A ad0 sz0 mc ms C ad H locs cells slots ls rst hE hH hL hst hS hk1 hk2
  obtain ⟨hx, hb, hml, hown, hts, hret, hlk, hnm, htab, hR, hV, hA⟩ := id C
  obtain ⟨_, _, rfl, ⟨b, rfl, hb2⟩, _, rs, rfl, ⟨a, rfl, ha2⟩, hst⟩ := hst
  subst hb2; subst ha2
  refine lv_ior hx hb hd ?_
  exact k p l e R s m args below meth c D dA sA A ad0 sz0 mc ms C ad H locs cells slots ls (.int _ :: rs) hE hH hL ⟨_, _, rfl, ⟨_, rfl, by unfold ior32; rw [i32_ofToInt, i32_ofToInt]⟩, hst⟩ hS hk1 hk2
theorem aw_ishl {Z : aZ} {M : aMD} {d kc ks pc : Nat} {L : List (Option aV)} {st : List aV} {G : aG} {x y : Int} (hd : decode M.2.1 pc = .ok (.ishl, 1))  (k : AW Z M d kc ks (pc + 1) L (vI (ishl32 x y) :: st) G) : AW Z M d kc ks pc L (vI y :: vI x :: st) G := by
  intro p l e R s m args below meth c D dA sA A ad0 sz0 mc ms C ad H locs cells slots ls rst hE hH hL hst hS hk1 hk2
  obtain ⟨hx, hb, hml, hown, hts, hret, hlk, hnm, htab, hR, hV, hA⟩ := id C
  obtain ⟨_, _, rfl, ⟨b, rfl, hb2⟩, _, rs, rfl, ⟨a, rfl, ha2⟩, hst⟩ := hst
  subst hb2; subst ha2
  refine lv_ishl hx hb hd ?_
  exact k p l e R s m args below meth c D dA sA A ad0 sz0 mc ms C ad H locs cells slots ls (.int _ :: rs) hE hH hL ⟨_, _, rfl, ⟨_, rfl, by unfold ishl32; rw [i32_ofToInt, i32_ofToInt]⟩, hst⟩ hS hk1 hk2
theorem aw_ishr {Z : aZ} {M : aMD} {d kc ks pc : Nat} {L : List (Option aV)} {st : List aV} {G : aG} {x y : Int} (hd : decode M.2.1 pc = .ok (.ishr, 1))  (k : AW Z M d kc ks (pc + 1) L (vI (ishr32 x y) :: st) G) : AW Z M d kc ks pc L (vI y :: vI x :: st) G := by
  intro p l e R s m args below meth c D dA sA A ad0 sz0 mc ms C ad H locs cells slots ls rst hE hH hL hst hS hk1 hk2
  obtain ⟨hx, hb, hml, hown, hts, hret, hlk, hnm, htab, hR, hV, hA⟩ := id C
  obtain ⟨_, _, rfl, ⟨b, rfl, hb2⟩, _, rs, rfl, ⟨a, rfl, ha2⟩, hst⟩ := hst
  subst hb2; subst ha2
  refine lv_ishr hx hb hd ?_
  exact k p l e R s m args below meth c D dA sA A ad0 sz0 mc ms C ad H locs cells slots ls (.int _ :: rs) hE hH hL ⟨_, _, rfl, ⟨_, rfl, by unfold ishr32; rw [i32_ofToInt, i32_ofToInt]⟩, hst⟩ hS hk1 hk2
theorem aw_land {Z : aZ} {M : aMD} {d kc ks pc : Nat} {L : List (Option aV)} {st : List aV} {G : aG} {x y : Int} (hd : decode M.2.1 pc = .ok (.land, 1))  (k : AW Z M d kc ks (pc + 1) L (vL (land64 x y) :: st) G) : AW Z M d kc ks pc L (vL y :: vL x :: st) G := by
  intro p l e R s m args below meth c D dA sA A ad0 sz0 mc ms C ad H locs cells slots ls rst hE hH hL hst hS hk1 hk2
  obtain ⟨hx, hb, hml, hown, hts, hret, hlk, hnm, htab, hR, hV, hA⟩ := id C
  obtain ⟨_, _, rfl, ⟨b, rfl, hb2⟩, _, rs, rfl, ⟨a, rfl, ha2⟩, hst⟩ := hst
  subst hb2; subst ha2
  refine lv_land hx hb hd ?_
  exact k p l e R s m args below meth c D dA sA A ad0 sz0 mc ms C ad H locs cells slots ls (.long _ :: rs) hE hH hL ⟨_, _, rfl, ⟨_, rfl, by unfold land64; rw [i64_ofToInt, i64_ofToInt]⟩, hst⟩ hS hk1 hk2
theorem aw_lor {Z : aZ} {M : aMD} {d kc ks pc : Nat} {L : List (Option aV)} {st : List aV} {G : aG} {x y : Int} (hd : decode M.2.1 pc = .ok (.lor, 1))  (k : AW Z M d kc ks (pc + 1) L (vL (lor64 x y) :: st) G) : AW Z M d kc ks pc L (vL y :: vL x :: st) G := by
  intro p l e R s m args below meth c D dA sA A ad0 sz0 mc ms C ad H locs cells slots ls rst hE hH hL hst hS hk1 hk2
  obtain ⟨hx, hb, hml, hown, hts, hret, hlk, hnm, htab, hR, hV, hA⟩ := id C
  obtain ⟨_, _, rfl, ⟨b, rfl, hb2⟩, _, rs, rfl, ⟨a, rfl, ha2⟩, hst⟩ := hst
  subst hb2; subst ha2
  refine lv_lor hx hb hd ?_
  exact k p l e R s m args below meth c D dA sA A ad0 sz0 mc ms C ad H locs cells slots ls (.long _ :: rs) hE hH hL ⟨_, _, rfl, ⟨_, rfl, by unfold lor64; rw [i64_ofToInt, i64_ofToInt]⟩, hst⟩ hS hk1 hk2
theorem aw_lshl {Z : aZ} {M : aMD} {d kc ks pc : Nat} {L : List (Option aV)} {st : List aV} {G : aG} {x y : Int} (hd : decode M.2.1 pc = .ok (.lshl, 1)) (k : AW Z M d kc ks (pc + 1) L (vL (lshl64 x y) :: st) G) : AW Z M d kc ks pc L (vI y :: vL x :: st) G := by
  intro p l e R s m args below meth c D dA sA A ad0 sz0 mc ms C ad H locs cells slots ls rst hE hH hL hst hS hk1 hk2
  obtain ⟨hx, hb, hml, hown, hts, hret, hlk, hnm, htab, hR, hV, hA⟩ := id C
  obtain ⟨_, _, rfl, ⟨b, rfl, hb2⟩, _, rs, rfl, ⟨a, rfl, ha2⟩, hst⟩ := hst
  subst hb2; subst ha2
  refine lv_lshl hx hb hd rfl ?_
  exact k p l e R s m args below meth c D dA sA A ad0 sz0 mc ms C ad H locs cells slots ls (.long _ :: rs) hE hH hL ⟨_, _, rfl, ⟨_, rfl, by unfold lshl64; rw [i64_ofToInt, i32_ofToInt]⟩, hst⟩ hS hk1 hk2
theorem aw_lshr {Z : aZ} {M : aMD} {d kc ks pc : Nat} {L : List (Option aV)} {st : List aV} {G : aG} {x y : Int} (hd : decode M.2.1 pc = .ok (.lshr, 1)) (k : AW Z M d kc ks (pc + 1) L (vL (lshr64 x y) :: st) G) : AW Z M d kc ks pc L (vI y :: vL x :: st) G := by
  intro p l e R s m args below meth c D dA sA A ad0 sz0 mc ms C ad H locs cells slots ls rst hE hH hL hst hS hk1 hk2
  obtain ⟨hx, hb, hml, hown, hts, hret, hlk, hnm, htab, hR, hV, hA⟩ := id C
  obtain ⟨_, _, rfl, ⟨b, rfl, hb2⟩, _, rs, rfl, ⟨a, rfl, ha2⟩, hst⟩ := hst
  subst hb2; subst ha2
  refine lv_lshr hx hb hd rfl ?_
  exact k p l e R s m args below meth c D dA sA A ad0 sz0 mc ms C ad H locs cells slots ls (.long _ :: rs) hE hH hL ⟨_, _, rfl, ⟨_, rfl, by unfold lshr64; rw [i64_ofToInt, i32_ofToInt]⟩, hst⟩ hS hk1 hk2
theorem aw_lushr {Z : aZ} {M : aMD} {d kc ks pc : Nat} {L : List (Option aV)} {st : List aV} {G : aG} {x y : Int} (hd : decode M.2.1 pc = .ok (.lushr, 1)) (k : AW Z M d kc ks (pc + 1) L (vL (lushr64 x y) :: st) G) : AW Z M d kc ks pc L (vI y :: vL x :: st) G := by
  intro p l e R s m args below meth c D dA sA A ad0 sz0 mc ms C ad H locs cells slots ls rst hE hH hL hst hS hk1 hk2
  obtain ⟨hx, hb, hml, hown, hts, hret, hlk, hnm, htab, hR, hV, hA⟩ := id C
  obtain ⟨_, _, rfl, ⟨b, rfl, hb2⟩, _, rs, rfl, ⟨a, rfl, ha2⟩, hst⟩ := hst
  subst hb2; subst ha2
  refine lv_lushr hx hb hd rfl ?_
  exact k p l e R s m args below meth c D dA sA A ad0 sz0 mc ms C ad H locs cells slots ls (.long _ :: rs) hE hH hL ⟨_, _, rfl, ⟨_, rfl, by unfold lushr64; rw [i64_ofToInt, i32_ofToInt]⟩, hst⟩ hS hk1 hk2
theorem aw_i2l {Z : aZ} {M : aMD} {d kc ks pc : Nat} {L : List (Option aV)} {st : List aV} {G : aG} {x : Int} (hd : decode M.2.1 pc = .ok (.i2l, 1)) (k : AW Z M d kc ks (pc + 1) L (vL (x) :: st) G) : AW Z M d kc ks pc L (vI x :: st) G := by
  intro p l e R s m args below meth c D dA sA A ad0 sz0 mc ms C ad H locs cells slots ls rst hE hH hL hst hS hk1 hk2
  obtain ⟨hx, hb, hml, hown, hts, hret, hlk, hnm, htab, hR, hV, hA⟩ := id C
  obtain ⟨_, rs, rfl, ⟨a, rfl, ha2⟩, hst⟩ := hst
  subst ha2
  refine lv_i2l hx hb hd rfl ?_
  exact k p l e R s m args below meth c D dA sA A ad0 sz0 mc ms C ad H locs cells slots ls (.long _ :: rs) hE hH hL ⟨_, _, rfl, ⟨_, rfl, (Int32.toInt_toInt64 a).symm⟩, hst⟩ hS hk1 hk2
theorem aw_l2i {Z : aZ} {M : aMD} {d kc ks pc : Nat} {L : List (Option aV)} {st : List aV} {G : aG} {x : Int} (hd : decode M.2.1 pc = .ok (.l2i, 1)) (k : AW Z M d kc ks (pc + 1) L (vI (w32 x) :: st) G) : AW Z M d kc ks pc L (vL x :: st) G := by
  intro p l e R s m args below meth c D dA sA A ad0 sz0 mc ms C ad H locs cells slots ls rst hE hH hL hst hS hk1 hk2
  obtain ⟨hx, hb, hml, hown, hts, hret, hlk, hnm, htab, hR, hV, hA⟩ := id C
  obtain ⟨_, rs, rfl, ⟨a, rfl, ha2⟩, hst⟩ := hst
  subst ha2
  refine lv_l2i hx hb hd rfl ?_
  exact k p l e R s m args below meth c D dA sA A ad0 sz0 mc ms C ad H locs cells slots ls (.int _ :: rs) hE hH hL ⟨_, _, rfl, ⟨_, rfl, by first | exact (Int64.toInt_toInt32 a).symm | (rw [Int64.toInt_toInt32]; rfl)⟩, hst⟩ hS hk1 hk2
theorem aw_i2b {Z : aZ} {M : aMD} {d kc ks pc : Nat} {L : List (Option aV)} {st : List aV} {G : aG} {x : Int} (hd : decode M.2.1 pc = .ok (.i2b, 1)) (k : AW Z M d kc ks (pc + 1) L (vI (w8 x) :: st) G) : AW Z M d kc ks pc L (vI x :: st) G := by
  intro p l e R s m args below meth c D dA sA A ad0 sz0 mc ms C ad H locs cells slots ls rst hE hH hL hst hS hk1 hk2
  obtain ⟨hx, hb, hml, hown, hts, hret, hlk, hnm, htab, hR, hV, hA⟩ := id C
  obtain ⟨_, rs, rfl, ⟨a, rfl, ha2⟩, hst⟩ := hst
  subst ha2
  refine lv_i2b hx hb hd rfl ?_
  exact k p l e R s m args below meth c D dA sA A ad0 sz0 mc ms C ad H locs cells slots ls (.int _ :: rs) hE hH hL ⟨_, _, rfl, ⟨_, rfl, by rw [Int8.toInt_toInt32, Int32.toInt_toInt8]; rfl⟩, hst⟩ hS hk1 hk2
theorem aw_i2s {Z : aZ} {M : aMD} {d kc ks pc : Nat} {L : List (Option aV)} {st : List aV} {G : aG} {x : Int} (hd : decode M.2.1 pc = .ok (.i2s, 1)) (k : AW Z M d kc ks (pc + 1) L (vI (w16 x) :: st) G) : AW Z M d kc ks pc L (vI x :: st) G := by
  intro p l e R s m args below meth c D dA sA A ad0 sz0 mc ms C ad H locs cells slots ls rst hE hH hL hst hS hk1 hk2
  obtain ⟨hx, hb, hml, hown, hts, hret, hlk, hnm, htab, hR, hV, hA⟩ := id C
  obtain ⟨_, rs, rfl, ⟨a, rfl, ha2⟩, hst⟩ := hst
  subst ha2
  refine lv_i2s hx hb hd rfl ?_
  exact k p l e R s m args below meth c D dA sA A ad0 sz0 mc ms C ad H locs cells slots ls (.int _ :: rs) hE hH hL ⟨_, _, rfl, ⟨_, rfl, by rw [Int16.toInt_toInt32, Int32.toInt_toInt16]; rfl⟩, hst⟩ hS hk1 hk2
def wc16 (x : Int) : Int := ((Int32.ofInt x).toUInt32 % 65536).toInt32.toInt
theorem aw_i2c {Z : aZ} {M : aMD} {d kc ks pc : Nat} {L : List (Option aV)} {st : List aV} {G : aG} {x : Int} (hd : decode M.2.1 pc = .ok (.i2c, 1)) (k : AW Z M d kc ks (pc + 1) L (vI (wc16 x) :: st) G) : AW Z M d kc ks pc L (vI x :: st) G := by
  intro p l e R s m args below meth c D dA sA A ad0 sz0 mc ms C ad H locs cells slots ls rst hE hH hL hst hS hk1 hk2
  obtain ⟨hx, hb, hml, hown, hts, hret, hlk, hnm, htab, hR, hV, hA⟩ := id C
  obtain ⟨_, rs, rfl, ⟨a, rfl, ha2⟩, hst⟩ := hst
  subst ha2
  refine lv_i2c hx hb hd rfl ?_
  exact k p l e R s m args below meth c D dA sA A ad0 sz0 mc ms C ad H locs cells slots ls (.int _ :: rs) hE hH hL ⟨_, _, rfl, ⟨_, rfl, by unfold wc16; rw [i32_ofToInt]⟩, hst⟩ hS hk1 hk2
theorem aw_lneg {Z : aZ} {M : aMD} {d kc ks pc : Nat} {L : List (Option aV)} {st : List aV} {G : aG} {x : Int} (hd : decode M.2.1 pc = .ok (.lneg, 1)) (k : AW Z M d kc ks (pc + 1) L (vL (w64 (-x)) :: st) G) : AW Z M d kc ks pc L (vL x :: st) G := by
  intro p l e R s m args below meth c D dA sA A ad0 sz0 mc ms C ad H locs cells slots ls rst hE hH hL hst hS hk1 hk2
  obtain ⟨hx, hb, hml, hown, hts, hret, hlk, hnm, htab, hR, hV, hA⟩ := id C
  obtain ⟨_, rs, rfl, ⟨a, rfl, ha2⟩, hst⟩ := hst
  subst ha2
  refine lv_lneg hx hb hd ?_
  exact k p l e R s m args below meth c D dA sA A ad0 sz0 mc ms C ad H locs cells slots ls (.long _ :: rs) hE hH hL ⟨_, _, rfl, ⟨_, rfl, (i64_wneg a).symm⟩, hst⟩ hS hk1 hk2
def cat1 (a : aV) : Bool := match a with
  | .inr (.inl _) => false
  | _ => true
theorem cat1_ok {sA : Nat → Nat} {ad : Int → Nat} {sz : Int} {a : aV} {v : Value} (h : vok sA ad sz a v) (hc : cat1 a = true) : v.category = 1 := by
  rw [vok_cat h]
  rcases a with x | x | x
  · rfl
  · cases hc
  · rfl
theorem aw_dup {Z : aZ} {M : aMD} {d kc ks pc : Nat} {L : List (Option aV)} {st : List aV} {G : aG} {a : aV} (hd : decode M.2.1 pc = .ok (.dup, 1)) (hc : cat1 a = true) (k : AW Z M d kc ks (pc + 1) L (a :: a :: st) G) : AW Z M d kc ks pc L (a :: st) G := by
  intro p l e R s m args below meth c D dA sA A ad0 sz0 mc ms C ad H locs cells slots ls rst hE hH hL hst hS hk1 hk2
  obtain ⟨hx, hb, hml, hown, hts, hret, hlk, hnm, htab, hR, hV, hA⟩ := id C
  obtain ⟨v, rs, rfl, h1, hst⟩ := hst
  refine lv_dup hx hb hd (cat1_ok h1 hc) ?_
  exact k p l e R s m args below meth c D dA sA A ad0 sz0 mc ms C ad H locs cells slots ls (v :: v :: rs) hE hH hL ⟨_, _, rfl, h1, _, _, rfl, h1, hst⟩ hS hk1 hk2
theorem aw_pop {Z : aZ} {M : aMD} {d kc ks pc : Nat} {L : List (Option aV)} {st : List aV} {G : aG} {a : aV} (hd : decode M.2.1 pc = .ok (.pop, 1)) (hc : cat1 a = true) (k : AW Z M d kc ks (pc + 1) L (st) G) : AW Z M d kc ks pc L (a :: st) G := by
  intro p l e R s m args below meth c D dA sA A ad0 sz0 mc ms C ad H locs cells slots ls rst hE hH hL hst hS hk1 hk2
  obtain ⟨hx, hb, hml, hown, hts, hret, hlk, hnm, htab, hR, hV, hA⟩ := id C
  obtain ⟨v, rs, rfl, h1, hst⟩ := hst
  refine lv_pop hx hb hd (cat1_ok h1 hc) ?_
  exact k p l e R s m args below meth c D dA sA A ad0 sz0 mc ms C ad H locs cells slots ls rs hE hH hL hst hS hk1 hk2
theorem aw_dup2 {Z : aZ} {M : aMD} {d kc ks pc : Nat} {L : List (Option aV)} {st : List aV} {G : aG} {a b : aV} (hd : decode M.2.1 pc = .ok (.dup2, 1)) (hc : cat1 a = true) (hc2 : cat1 b = true) (k : AW Z M d kc ks (pc + 1) L (a :: b :: a :: b :: st) G) : AW Z M d kc ks pc L (a :: b :: st) G := by
  intro p l e R s m args below meth c D dA sA A ad0 sz0 mc ms C ad H locs cells slots ls rst hE hH hL hst hS hk1 hk2
  obtain ⟨hx, hb, hml, hown, hts, hret, hlk, hnm, htab, hR, hV, hA⟩ := id C
  obtain ⟨v, _, rfl, h1, w, rs, rfl, h2, hst⟩ := hst
  refine lv_dup2_11 hx hb hd (cat1_ok h1 hc) (cat1_ok h2 hc2) ?_
  exact k p l e R s m args below meth c D dA sA A ad0 sz0 mc ms C ad H locs cells slots ls (v :: w :: v :: w :: rs) hE hH hL ⟨_, _, rfl, h1, _, _, rfl, h2, _, _, rfl, h1, _, _, rfl, h2, hst⟩ hS hk1 hk2
theorem aw_dup2L {Z : aZ} {M : aMD} {d kc ks pc : Nat} {L : List (Option aV)} {st : List aV} {G : aG} {x : Int} (hd : decode M.2.1 pc = .ok (.dup2, 1)) (k : AW Z M d kc ks (pc + 1) L (vL x :: vL x :: st) G) : AW Z M d kc ks pc L (vL x :: st) G := by
  intro p l e R s m args below meth c D dA sA A ad0 sz0 mc ms C ad H locs cells slots ls rst hE hH hL hst hS hk1 hk2
  obtain ⟨hx, hb, hml, hown, hts, hret, hlk, hnm, htab, hR, hV, hA⟩ := id C
  obtain ⟨v, rs, rfl, h1, hst⟩ := hst
  refine lv_dup2_2 hx hb hd (vok_cat h1) ?_
  exact k p l e R s m args below meth c D dA sA A ad0 sz0 mc ms C ad H locs cells slots ls (v :: v :: rs) hE hH hL ⟨_, _, rfl, h1, _, _, rfl, h1, hst⟩ hS hk1 hk2
theorem i32_z : (0 : Int32).toInt = 0 := by decide
theorem aw_ifeq {Z : aZ} {M : aMD} {d kc ks pc : Nat} {L : List (Option aV)} {st : List aV} {G : aG} {x : Int} {off : Int} {tgt : Nat} (hd : decode M.2.1 pc = .ok (.ifCond .eq off, 3)) (ht : (pc : Int) + off = (tgt : Int)) (kt : (x = 0) → AW Z M d kc ks tgt L st G) (kf : (¬ x = 0) → AW Z M d kc ks (pc + 3) L st G) : AW Z M d kc ks pc L (vI x :: st) G := by
  intro p l e R s m args below meth c D dA sA A ad0 sz0 mc ms C ad H locs cells slots ls rst hE hH hL hst hS hk1 hk2
  obtain ⟨hx, hb, hml, hown, hts, hret, hlk, hnm, htab, hR, hV, hA⟩ := id C
  obtain ⟨_, rs, rfl, ⟨a, rfl, ha2⟩, hst⟩ := hst
  subst ha2
  refine lv_if_eq hx hb hd ht (fun h => ?_) (fun h => ?_)
  · exact kt (by have h9 := h; simp only [← Int32.toInt_inj, Int32.lt_iff_toInt_lt, Int32.le_iff_toInt_le, i32_z] at h9; exact h9) p l e R s m args below meth c D dA sA A ad0 sz0 mc ms C ad H locs cells slots ls rs hE hH hL hst hS hk1 hk2
  · exact kf (by have h9 := h; simp only [← Int32.toInt_inj, Int32.lt_iff_toInt_lt, Int32.le_iff_toInt_le, i32_z] at h9; exact h9) p l e R s m args below meth c D dA sA A ad0 sz0 mc ms C ad H locs cells slots ls rs hE hH hL hst hS hk1 hk2
theorem aw_icmpeq {Z : aZ} {M : aMD} {d kc ks pc : Nat} {L : List (Option aV)} {st : List aV} {G : aG} {x y : Int} {off : Int} {tgt : Nat} (hd : decode M.2.1 pc = .ok (.if_icmp .eq off, 3)) (ht : (pc : Int) + off = (tgt : Int)) (kt : (x = y) → AW Z M d kc ks tgt L st G) (kf : (¬ x = y) → AW Z M d kc ks (pc + 3) L st G) : AW Z M d kc ks pc L (vI y :: vI x :: st) G := by
  intro p l e R s m args below meth c D dA sA A ad0 sz0 mc ms C ad H locs cells slots ls rst hE hH hL hst hS hk1 hk2
  obtain ⟨hx, hb, hml, hown, hts, hret, hlk, hnm, htab, hR, hV, hA⟩ := id C
  obtain ⟨_, _, rfl, ⟨b, rfl, hb2⟩, _, rs, rfl, ⟨a, rfl, ha2⟩, hst⟩ := hst
  subst hb2; subst ha2
  refine lv_icmp_eq hx hb hd ht (fun h => ?_) (fun h => ?_)
  · exact kt (by have h9 := h; simp only [← Int32.toInt_inj, Int32.lt_iff_toInt_lt, Int32.le_iff_toInt_le, i32_z] at h9; exact h9) p l e R s m args below meth c D dA sA A ad0 sz0 mc ms C ad H locs cells slots ls rs hE hH hL hst hS hk1 hk2
  · exact kf (by have h9 := h; simp only [← Int32.toInt_inj, Int32.lt_iff_toInt_lt, Int32.le_iff_toInt_le, i32_z] at h9; exact h9) p l e R s m args below meth c D dA sA A ad0 sz0 mc ms C ad H locs cells slots ls rs hE hH hL hst hS hk1 hk2
theorem aw_ifne {Z : aZ} {M : aMD} {d kc ks pc : Nat} {L : List (Option aV)} {st : List aV} {G : aG} {x : Int} {off : Int} {tgt : Nat} (hd : decode M.2.1 pc = .ok (.ifCond .ne off, 3)) (ht : (pc : Int) + off = (tgt : Int)) (kt : (¬ x = 0) → AW Z M d kc ks tgt L st G) (kf : (x = 0) → AW Z M d kc ks (pc + 3) L st G) : AW Z M d kc ks pc L (vI x :: st) G := by
  intro p l e R s m args below meth c D dA sA A ad0 sz0 mc ms C ad H locs cells slots ls rst hE hH hL hst hS hk1 hk2
  obtain ⟨hx, hb, hml, hown, hts, hret, hlk, hnm, htab, hR, hV, hA⟩ := id C
  obtain ⟨_, rs, rfl, ⟨a, rfl, ha2⟩, hst⟩ := hst
  subst ha2
  refine lv_if_ne hx hb hd ht (fun h => ?_) (fun h => ?_)
  · exact kt (by have h9 := h; simp only [← Int32.toInt_inj, Int32.lt_iff_toInt_lt, Int32.le_iff_toInt_le, i32_z] at h9; exact h9) p l e R s m args below meth c D dA sA A ad0 sz0 mc ms C ad H locs cells slots ls rs hE hH hL hst hS hk1 hk2
  · exact kf (by have h9 := h; simp only [← Int32.toInt_inj, Int32.lt_iff_toInt_lt, Int32.le_iff_toInt_le, i32_z] at h9; exact h9) p l e R s m args below meth c D dA sA A ad0 sz0 mc ms C ad H locs cells slots ls rs hE hH hL hst hS hk1 hk2
theorem aw_icmpne {Z : aZ} {M : aMD} {d kc ks pc : Nat} {L : List (Option aV)} {st : List aV} {G : aG} {x y : Int} {off : Int} {tgt : Nat} (hd : decode M.2.1 pc = .ok (.if_icmp .ne off, 3)) (ht : (pc : Int) + off = (tgt : Int)) (kt : (¬ x = y) → AW Z M d kc ks tgt L st G) (kf : (x = y) → AW Z M d kc ks (pc + 3) L st G) : AW Z M d kc ks pc L (vI y :: vI x :: st) G := by
  intro p l e R s m args below meth c D dA sA A ad0 sz0 mc ms C ad H locs cells slots ls rst hE hH hL hst hS hk1 hk2
  obtain ⟨hx, hb, hml, hown, hts, hret, hlk, hnm, htab, hR, hV, hA⟩ := id C
  obtain ⟨_, _, rfl, ⟨b, rfl, hb2⟩, _, rs, rfl, ⟨a, rfl, ha2⟩, hst⟩ := hst
  subst hb2; subst ha2
  refine lv_icmp_ne hx hb hd ht (fun h => ?_) (fun h => ?_)
  · exact kt (by have h9 := h; simp only [← Int32.toInt_inj, Int32.lt_iff_toInt_lt, Int32.le_iff_toInt_le, i32_z] at h9; exact h9) p l e R s m args below meth c D dA sA A ad0 sz0 mc ms C ad H locs cells slots ls rs hE hH hL hst hS hk1 hk2
  · exact kf (by have h9 := h; simp only [← Int32.toInt_inj, Int32.lt_iff_toInt_lt, Int32.le_iff_toInt_le, i32_z] at h9; exact h9) p l e R s m args below meth c D dA sA A ad0 sz0 mc ms C ad H locs cells slots ls rs hE hH hL hst hS hk1 hk2
theorem aw_iflt {Z : aZ} {M : aMD} {d kc ks pc : Nat} {L : List (Option aV)} {st : List aV} {G : aG} {x : Int} {off : Int} {tgt : Nat} (hd : decode M.2.1 pc = .ok (.ifCond .lt off, 3)) (ht : (pc : Int) + off = (tgt : Int)) (kt : (x < 0) → AW Z M d kc ks tgt L st G) (kf : (¬ x < 0) → AW Z M d kc ks (pc + 3) L st G) : AW Z M d kc ks pc L (vI x :: st) G := by
  intro p l e R s m args below meth c D dA sA A ad0 sz0 mc ms C ad H locs cells slots ls rst hE hH hL hst hS hk1 hk2
  obtain ⟨hx, hb, hml, hown, hts, hret, hlk, hnm, htab, hR, hV, hA⟩ := id C
  obtain ⟨_, rs, rfl, ⟨a, rfl, ha2⟩, hst⟩ := hst
  subst ha2
  refine lv_if_lt hx hb hd ht (fun h => ?_) (fun h => ?_)
  · exact kt (by have h9 := h; simp only [← Int32.toInt_inj, Int32.lt_iff_toInt_lt, Int32.le_iff_toInt_le, i32_z] at h9; exact h9) p l e R s m args below meth c D dA sA A ad0 sz0 mc ms C ad H locs cells slots ls rs hE hH hL hst hS hk1 hk2
  · exact kf (by have h9 := h; simp only [← Int32.toInt_inj, Int32.lt_iff_toInt_lt, Int32.le_iff_toInt_le, i32_z] at h9; exact h9) p l e R s m args below meth c D dA sA A ad0 sz0 mc ms C ad H locs cells slots ls rs hE hH hL hst hS hk1 hk2
theorem aw_icmplt {Z : aZ} {M : aMD} {d kc ks pc : Nat} {L : List (Option aV)} {st : List aV} {G : aG} {x y : Int} {off : Int} {tgt : Nat} (hd : decode M.2.1 pc = .ok (.if_icmp .lt off, 3)) (ht : (pc : Int) + off = (tgt : Int)) (kt : (x < y) → AW Z M d kc ks tgt L st G) (kf : (¬ x < y) → AW Z M d kc ks (pc + 3) L st G) : AW Z M d kc ks pc L (vI y :: vI x :: st) G := by
  intro p l e R s m args below meth c D dA sA A ad0 sz0 mc ms C ad H locs cells slots ls rst hE hH hL hst hS hk1 hk2
  obtain ⟨hx, hb, hml, hown, hts, hret, hlk, hnm, htab, hR, hV, hA⟩ := id C
  obtain ⟨_, _, rfl, ⟨b, rfl, hb2⟩, _, rs, rfl, ⟨a, rfl, ha2⟩, hst⟩ := hst
  subst hb2; subst ha2
  refine lv_icmp_lt hx hb hd ht (fun h => ?_) (fun h => ?_)
  · exact kt (by have h9 := h; simp only [← Int32.toInt_inj, Int32.lt_iff_toInt_lt, Int32.le_iff_toInt_le, i32_z] at h9; exact h9) p l e R s m args below meth c D dA sA A ad0 sz0 mc ms C ad H locs cells slots ls rs hE hH hL hst hS hk1 hk2
  · exact kf (by have h9 := h; simp only [← Int32.toInt_inj, Int32.lt_iff_toInt_lt, Int32.le_iff_toInt_le, i32_z] at h9; exact h9) p l e R s m args below meth c D dA sA A ad0 sz0 mc ms C ad H locs cells slots ls rs hE hH hL hst hS hk1 hk2
theorem aw_ifge {Z : aZ} {M : aMD} {d kc ks pc : Nat} {L : List (Option aV)} {st : List aV} {G : aG} {x : Int} {off : Int} {tgt : Nat} (hd : decode M.2.1 pc = .ok (.ifCond .ge off, 3)) (ht : (pc : Int) + off = (tgt : Int)) (kt : (0 ≤ x) → AW Z M d kc ks tgt L st G) (kf : (¬ 0 ≤ x) → AW Z M d kc ks (pc + 3) L st G) : AW Z M d kc ks pc L (vI x :: st) G := by
  intro p l e R s m args below meth c D dA sA A ad0 sz0 mc ms C ad H locs cells slots ls rst hE hH hL hst hS hk1 hk2
  obtain ⟨hx, hb, hml, hown, hts, hret, hlk, hnm, htab, hR, hV, hA⟩ := id C
  obtain ⟨_, rs, rfl, ⟨a, rfl, ha2⟩, hst⟩ := hst
  subst ha2
  refine lv_if_ge hx hb hd ht (fun h => ?_) (fun h => ?_)
  · exact kt (by have h9 := h; simp only [← Int32.toInt_inj, Int32.lt_iff_toInt_lt, Int32.le_iff_toInt_le, i32_z] at h9; exact h9) p l e R s m args below meth c D dA sA A ad0 sz0 mc ms C ad H locs cells slots ls rs hE hH hL hst hS hk1 hk2
  · exact kf (by have h9 := h; simp only [← Int32.toInt_inj, Int32.lt_iff_toInt_lt, Int32.le_iff_toInt_le, i32_z] at h9; exact h9) p l e R s m args below meth c D dA sA A ad0 sz0 mc ms C ad H locs cells slots ls rs hE hH hL hst hS hk1 hk2
theorem aw_icmpge {Z : aZ} {M : aMD} {d kc ks pc : Nat} {L : List (Option aV)} {st : List aV} {G : aG} {x y : Int} {off : Int} {tgt : Nat} (hd : decode M.2.1 pc = .ok (.if_icmp .ge off, 3)) (ht : (pc : Int) + off = (tgt : Int)) (kt : (y ≤ x) → AW Z M d kc ks tgt L st G) (kf : (¬ y ≤ x) → AW Z M d kc ks (pc + 3) L st G) : AW Z M d kc ks pc L (vI y :: vI x :: st) G := by
  intro p l e R s m args below meth c D dA sA A ad0 sz0 mc ms C ad H locs cells slots ls rst hE hH hL hst hS hk1 hk2
  obtain ⟨hx, hb, hml, hown, hts, hret, hlk, hnm, htab, hR, hV, hA⟩ := id C
  obtain ⟨_, _, rfl, ⟨b, rfl, hb2⟩, _, rs, rfl, ⟨a, rfl, ha2⟩, hst⟩ := hst
  subst hb2; subst ha2
  refine lv_icmp_ge hx hb hd ht (fun h => ?_) (fun h => ?_)
  · exact kt (by have h9 := h; simp only [← Int32.toInt_inj, Int32.lt_iff_toInt_lt, Int32.le_iff_toInt_le, i32_z] at h9; exact h9) p l e R s m args below meth c D dA sA A ad0 sz0 mc ms C ad H locs cells slots ls rs hE hH hL hst hS hk1 hk2
  · exact kf (by have h9 := h; simp only [← Int32.toInt_inj, Int32.lt_iff_toInt_lt, Int32.le_iff_toInt_le, i32_z] at h9; exact h9) p l e R s m args below meth c D dA sA A ad0 sz0 mc ms C ad H locs cells slots ls rs hE hH hL hst hS hk1 hk2
theorem aw_ifgt {Z : aZ} {M : aMD} {d kc ks pc : Nat} {L : List (Option aV)} {st : List aV} {G : aG} {x : Int} {off : Int} {tgt : Nat} (hd : decode M.2.1 pc = .ok (.ifCond .gt off, 3)) (ht : (pc : Int) + off = (tgt : Int)) (kt : (0 < x) → AW Z M d kc ks tgt L st G) (kf : (¬ 0 < x) → AW Z M d kc ks (pc + 3) L st G) : AW Z M d kc ks pc L (vI x :: st) G := by
  intro p l e R s m args below meth c D dA sA A ad0 sz0 mc ms C ad H locs cells slots ls rst hE hH hL hst hS hk1 hk2
  obtain ⟨hx, hb, hml, hown, hts, hret, hlk, hnm, htab, hR, hV, hA⟩ := id C
  obtain ⟨_, rs, rfl, ⟨a, rfl, ha2⟩, hst⟩ := hst
  subst ha2
  refine lv_if_gt hx hb hd ht (fun h => ?_) (fun h => ?_)
  · exact kt (by have h9 := h; simp only [← Int32.toInt_inj, Int32.lt_iff_toInt_lt, Int32.le_iff_toInt_le, i32_z] at h9; exact h9) p l e R s m args below meth c D dA sA A ad0 sz0 mc ms C ad H locs cells slots ls rs hE hH hL hst hS hk1 hk2
  · exact kf (by have h9 := h; simp only [← Int32.toInt_inj, Int32.lt_iff_toInt_lt, Int32.le_iff_toInt_le, i32_z] at h9; exact h9) p l e R s m args below meth c D dA sA A ad0 sz0 mc ms C ad H locs cells slots ls rs hE hH hL hst hS hk1 hk2
theorem aw_icmpgt {Z : aZ} {M : aMD} {d kc ks pc : Nat} {L : List (Option aV)} {st : List aV} {G : aG} {x y : Int} {off : Int} {tgt : Nat} (hd : decode M.2.1 pc = .ok (.if_icmp .gt off, 3)) (ht : (pc : Int) + off = (tgt : Int)) (kt : (y < x) → AW Z M d kc ks tgt L st G) (kf : (¬ y < x) → AW Z M d kc ks (pc + 3) L st G) : AW Z M d kc ks pc L (vI y :: vI x :: st) G := by
  intro p l e R s m args below meth c D dA sA A ad0 sz0 mc ms C ad H locs cells slots ls rst hE hH hL hst hS hk1 hk2
  obtain ⟨hx, hb, hml, hown, hts, hret, hlk, hnm, htab, hR, hV, hA⟩ := id C
  obtain ⟨_, _, rfl, ⟨b, rfl, hb2⟩, _, rs, rfl, ⟨a, rfl, ha2⟩, hst⟩ := hst
  subst hb2; subst ha2
  refine lv_icmp_gt hx hb hd ht (fun h => ?_) (fun h => ?_)
  · exact kt (by have h9 := h; simp only [← Int32.toInt_inj, Int32.lt_iff_toInt_lt, Int32.le_iff_toInt_le, i32_z] at h9; exact h9) p l e R s m args below meth c D dA sA A ad0 sz0 mc ms C ad H locs cells slots ls rs hE hH hL hst hS hk1 hk2
  · exact kf (by have h9 := h; simp only [← Int32.toInt_inj, Int32.lt_iff_toInt_lt, Int32.le_iff_toInt_le, i32_z] at h9; exact h9) p l e R s m args below meth c D dA sA A ad0 sz0 mc ms C ad H locs cells slots ls rs hE hH hL hst hS hk1 hk2
theorem aw_ifle {Z : aZ} {M : aMD} {d kc ks pc : Nat} {L : List (Option aV)} {st : List aV} {G : aG} {x : Int} {off : Int} {tgt : Nat} (hd : decode M.2.1 pc = .ok (.ifCond .le off, 3)) (ht : (pc : Int) + off = (tgt : Int)) (kt : (x ≤ 0) → AW Z M d kc ks tgt L st G) (kf : (¬ x ≤ 0) → AW Z M d kc ks (pc + 3) L st G) : AW Z M d kc ks pc L (vI x :: st) G := by
  intro p l e R s m args below meth c D dA sA A ad0 sz0 mc ms C ad H locs cells slots ls rst hE hH hL hst hS hk1 hk2
  obtain ⟨hx, hb, hml, hown, hts, hret, hlk, hnm, htab, hR, hV, hA⟩ := id C
  obtain ⟨_, rs, rfl, ⟨a, rfl, ha2⟩, hst⟩ := hst
  subst ha2
  refine lv_if_le hx hb hd ht (fun h => ?_) (fun h => ?_)
  · exact kt (by have h9 := h; simp only [← Int32.toInt_inj, Int32.lt_iff_toInt_lt, Int32.le_iff_toInt_le, i32_z] at h9; exact h9) p l e R s m args below meth c D dA sA A ad0 sz0 mc ms C ad H locs cells slots ls rs hE hH hL hst hS hk1 hk2
  · exact kf (by have h9 := h; simp only [← Int32.toInt_inj, Int32.lt_iff_toInt_lt, Int32.le_iff_toInt_le, i32_z] at h9; exact h9) p l e R s m args below meth c D dA sA A ad0 sz0 mc ms C ad H locs cells slots ls rs hE hH hL hst hS hk1 hk2
theorem aw_icmple {Z : aZ} {M : aMD} {d kc ks pc : Nat} {L : List (Option aV)} {st : List aV} {G : aG} {x y : Int} {off : Int} {tgt : Nat} (hd : decode M.2.1 pc = .ok (.if_icmp .le off, 3)) (ht : (pc : Int) + off = (tgt : Int)) (kt : (x ≤ y) → AW Z M d kc ks tgt L st G) (kf : (¬ x ≤ y) → AW Z M d kc ks (pc + 3) L st G) : AW Z M d kc ks pc L (vI y :: vI x :: st) G := by
  intro p l e R s m args below meth c D dA sA A ad0 sz0 mc ms C ad H locs cells slots ls rst hE hH hL hst hS hk1 hk2
  obtain ⟨hx, hb, hml, hown, hts, hret, hlk, hnm, htab, hR, hV, hA⟩ := id C
  obtain ⟨_, _, rfl, ⟨b, rfl, hb2⟩, _, rs, rfl, ⟨a, rfl, ha2⟩, hst⟩ := hst
  subst hb2; subst ha2
  refine lv_icmp_le hx hb hd ht (fun h => ?_) (fun h => ?_)
  · exact kt (by have h9 := h; simp only [← Int32.toInt_inj, Int32.lt_iff_toInt_lt, Int32.le_iff_toInt_le, i32_z] at h9; exact h9) p l e R s m args below meth c D dA sA A ad0 sz0 mc ms C ad H locs cells slots ls rs hE hH hL hst hS hk1 hk2
  · exact kf (by have h9 := h; simp only [← Int32.toInt_inj, Int32.lt_iff_toInt_lt, Int32.le_iff_toInt_le, i32_z] at h9; exact h9) p l e R s m args below meth c D dA sA A ad0 sz0 mc ms C ad H locs cells slots ls rs hE hH hL hst hS hk1 hk2
theorem aw_ifnull {Z : aZ} {M : aMD} {d kc ks pc : Nat} {L : List (Option aV)} {st : List aV} {G : aG} {x : Int} {off : Int} {tgt : Nat} (hd : decode M.2.1 pc = .ok (.ifnull off, 3)) (ht : (pc : Int) + off = (tgt : Int)) (hx0 : -1 ≤ x) (kt : x = -1 → AW Z M d kc ks tgt L st G) (kf : 0 ≤ x → AW Z M d kc ks (pc + 3) L st G) : AW Z M d kc ks pc L (vR x :: st) G := by
  intro p l e R s m args below meth c D dA sA A ad0 sz0 mc ms C ad H locs cells slots ls rst hE hH hL hst hS hk1 hk2
  obtain ⟨hx, hb, hml, hown, hts, hret, hlk, hnm, htab, hR, hV, hA⟩ := id C
  obtain ⟨_, rs, rfl, h1, hst⟩ := hst
  rcases h1 with ⟨h1, rfl⟩ | ⟨h1, h2, rfl⟩ | ⟨k, h1, -, -⟩ | ⟨h1, -⟩
  · refine lv_ifnullN hx hb hd ht ?_
    exact kt h1 p l e R s m args below meth c D dA sA A ad0 sz0 mc ms C ad H locs cells slots ls rs hE hH hL hst hS hk1 hk2
  · refine lv_ifnull hx hb hd ?_
    exact kf h1 p l e R s m args below meth c D dA sA A ad0 sz0 mc ms C ad H locs cells slots ls rs hE hH hL hst hS hk1 hk2
  · omega
  · omega
theorem aw_ifnonnull {Z : aZ} {M : aMD} {d kc ks pc : Nat} {L : List (Option aV)} {st : List aV} {G : aG} {x : Int} {off : Int} {tgt : Nat} (hd : decode M.2.1 pc = .ok (.ifnonnull off, 3)) (ht : (pc : Int) + off = (tgt : Int)) (hx0 : -1 ≤ x) (kt : 0 ≤ x → AW Z M d kc ks tgt L st G) (kf : x = -1 → AW Z M d kc ks (pc + 3) L st G) : AW Z M d kc ks pc L (vR x :: st) G := by
  intro p l e R s m args below meth c D dA sA A ad0 sz0 mc ms C ad H locs cells slots ls rst hE hH hL hst hS hk1 hk2
  obtain ⟨hx, hb, hml, hown, hts, hret, hlk, hnm, htab, hR, hV, hA⟩ := id C
  obtain ⟨_, rs, rfl, h1, hst⟩ := hst
  rcases h1 with ⟨h1, rfl⟩ | ⟨h1, h2, rfl⟩ | ⟨k, h1, -, -⟩ | ⟨h1, -⟩
  · refine lv_ifnonnullN hx hb hd ?_
    exact kf h1 p l e R s m args below meth c D dA sA A ad0 sz0 mc ms C ad H locs cells slots ls rs hE hH hL hst hS hk1 hk2
  · refine lv_ifnonnull hx hb hd ht ?_
    exact kt h1 p l e R s m args below meth c D dA sA A ad0 sz0 mc ms C ad H locs cells slots ls rs hE hH hL hst hS hk1 hk2
  · omega
  · omega
theorem aw_goto {Z : aZ} {M : aMD} {d kc ks pc : Nat} {L : List (Option aV)} {st : List aV} {G : aG} {off : Int} {tgt : Nat} (hd : decode M.2.1 pc = .ok (.goto off, 3)) (ht : (pc : Int) + off = (tgt : Int)) (k : AW Z M d kc ks tgt L st G) : AW Z M d kc ks pc L st G := by
  intro p l e R s m args below meth c D dA sA A ad0 sz0 mc ms C ad H locs cells slots ls rst hE hH hL hst hS hk1 hk2
  obtain ⟨hx, hb, hml, hown, hts, hret, hlk, hnm, htab, hR, hV, hA⟩ := id C
  refine lv_goto hx hb hd ht ?_
  exact k p l e R s m args below meth c D dA sA A ad0 sz0 mc ms C ad H locs cells slots ls rst hE hH hL hst hS hk1 hk2
theorem awc_lt {x y : Int64} : (lg_cmp x y < 0 ↔ x.toInt < y.toInt) ∧ (0 < lg_cmp x y ↔ y.toInt < x.toInt) ∧ (lg_cmp x y = 0 ↔ x.toInt = y.toInt) := by
  unfold lg_cmp
  by_cases h1 : y < x
  · have h2 : y.toInt < x.toInt := Int64.lt_iff_toInt_lt.mp h1
    simp only [h1, if_true]
    exact ⟨⟨fun h => absurd h (by decide), fun h => by omega⟩, ⟨fun _ => h2, fun _ => by decide⟩, ⟨fun h => absurd h (by decide), fun h => by omega⟩⟩
  · have h2 : ¬ y.toInt < x.toInt := fun h => h1 (Int64.lt_iff_toInt_lt.mpr h)
    by_cases h3 : x = y
    · subst h3
      simp [h1]
    · have h4 : ¬ x.toInt = y.toInt := fun h => h3 (Int64.toInt_inj.mp h)
      simp only [h1, h3, if_false]
      exact ⟨⟨fun _ => by omega, fun _ => by decide⟩, ⟨fun h => absurd h (by decide), fun h => by omega⟩, ⟨fun h => absurd h (by decide), fun h => by omega⟩⟩
theorem aw_lcmpeq {Z : aZ} {M : aMD} {d kc ks pc : Nat} {L : List (Option aV)} {st : List aV} {G : aG} {x y : Int} {off : Int} {tgt : Nat} (hd0 : decode M.2.1 pc = .ok (.lcmp, 1)) (hd : decode M.2.1 (pc + 1) = .ok (.ifCond .eq off, 3)) (ht : ((pc + 1 : Nat) : Int) + off = (tgt : Int)) (kt : (x = y) → AW Z M d kc ks tgt L st G) (kf : (¬ x = y) → AW Z M d kc ks (pc + 1 + 3) L st G) : AW Z M d kc ks pc L (vL y :: vL x :: st) G := by
  intro p l e R s m args below meth c D dA sA A ad0 sz0 mc ms C ad H locs cells slots ls rst hE hH hL hst hS hk1 hk2
  obtain ⟨hx, hb, hml, hown, hts, hret, hlk, hnm, htab, hR, hV, hA⟩ := id C
  obtain ⟨_, _, rfl, ⟨b, rfl, hb2⟩, _, rs, rfl, ⟨a, rfl, ha2⟩, hst⟩ := hst
  subst hb2; subst ha2
  refine W.lcmp hx hb hd0 ?_
  refine lv_if_eq hx hb hd ht (fun h => ?_) (fun h => ?_)
  · exact kt (awc_lt.2.2.mp h) p l e R s m args below meth c D dA sA A ad0 sz0 mc ms C ad H locs cells slots ls rs hE hH hL hst hS hk1 hk2
  · exact kf (fun q => h (awc_lt.2.2.mpr q)) p l e R s m args below meth c D dA sA A ad0 sz0 mc ms C ad H locs cells slots ls rs hE hH hL hst hS hk1 hk2
theorem aw_lcmpne {Z : aZ} {M : aMD} {d kc ks pc : Nat} {L : List (Option aV)} {st : List aV} {G : aG} {x y : Int} {off : Int} {tgt : Nat} (hd0 : decode M.2.1 pc = .ok (.lcmp, 1)) (hd : decode M.2.1 (pc + 1) = .ok (.ifCond .ne off, 3)) (ht : ((pc + 1 : Nat) : Int) + off = (tgt : Int)) (kt : (¬ x = y) → AW Z M d kc ks tgt L st G) (kf : (x = y) → AW Z M d kc ks (pc + 1 + 3) L st G) : AW Z M d kc ks pc L (vL y :: vL x :: st) G := by
  intro p l e R s m args below meth c D dA sA A ad0 sz0 mc ms C ad H locs cells slots ls rst hE hH hL hst hS hk1 hk2
  obtain ⟨hx, hb, hml, hown, hts, hret, hlk, hnm, htab, hR, hV, hA⟩ := id C
  obtain ⟨_, _, rfl, ⟨b, rfl, hb2⟩, _, rs, rfl, ⟨a, rfl, ha2⟩, hst⟩ := hst
  subst hb2; subst ha2
  refine W.lcmp hx hb hd0 ?_
  refine lv_if_ne hx hb hd ht (fun h => ?_) (fun h => ?_)
  · exact kt (fun q => h (awc_lt.2.2.mpr q)) p l e R s m args below meth c D dA sA A ad0 sz0 mc ms C ad H locs cells slots ls rs hE hH hL hst hS hk1 hk2
  · exact kf (awc_lt.2.2.mp h) p l e R s m args below meth c D dA sA A ad0 sz0 mc ms C ad H locs cells slots ls rs hE hH hL hst hS hk1 hk2
theorem aw_lcmplt {Z : aZ} {M : aMD} {d kc ks pc : Nat} {L : List (Option aV)} {st : List aV} {G : aG} {x y : Int} {off : Int} {tgt : Nat} (hd0 : decode M.2.1 pc = .ok (.lcmp, 1)) (hd : decode M.2.1 (pc + 1) = .ok (.ifCond .lt off, 3)) (ht : ((pc + 1 : Nat) : Int) + off = (tgt : Int)) (kt : (x < y) → AW Z M d kc ks tgt L st G) (kf : (¬ x < y) → AW Z M d kc ks (pc + 1 + 3) L st G) : AW Z M d kc ks pc L (vL y :: vL x :: st) G := by
  intro p l e R s m args below meth c D dA sA A ad0 sz0 mc ms C ad H locs cells slots ls rst hE hH hL hst hS hk1 hk2
  obtain ⟨hx, hb, hml, hown, hts, hret, hlk, hnm, htab, hR, hV, hA⟩ := id C
  obtain ⟨_, _, rfl, ⟨b, rfl, hb2⟩, _, rs, rfl, ⟨a, rfl, ha2⟩, hst⟩ := hst
  subst hb2; subst ha2
  refine W.lcmp hx hb hd0 ?_
  refine lv_if_lt hx hb hd ht (fun h => ?_) (fun h => ?_)
  · exact kt (awc_lt.1.mp h) p l e R s m args below meth c D dA sA A ad0 sz0 mc ms C ad H locs cells slots ls rs hE hH hL hst hS hk1 hk2
  · exact kf (fun q => h (awc_lt.1.mpr q)) p l e R s m args below meth c D dA sA A ad0 sz0 mc ms C ad H locs cells slots ls rs hE hH hL hst hS hk1 hk2
theorem aw_lcmpge {Z : aZ} {M : aMD} {d kc ks pc : Nat} {L : List (Option aV)} {st : List aV} {G : aG} {x y : Int} {off : Int} {tgt : Nat} (hd0 : decode M.2.1 pc = .ok (.lcmp, 1)) (hd : decode M.2.1 (pc + 1) = .ok (.ifCond .ge off, 3)) (ht : ((pc + 1 : Nat) : Int) + off = (tgt : Int)) (kt : (y ≤ x) → AW Z M d kc ks tgt L st G) (kf : (¬ y ≤ x) → AW Z M d kc ks (pc + 1 + 3) L st G) : AW Z M d kc ks pc L (vL y :: vL x :: st) G := by
  intro p l e R s m args below meth c D dA sA A ad0 sz0 mc ms C ad H locs cells slots ls rst hE hH hL hst hS hk1 hk2
  obtain ⟨hx, hb, hml, hown, hts, hret, hlk, hnm, htab, hR, hV, hA⟩ := id C
  obtain ⟨_, _, rfl, ⟨b, rfl, hb2⟩, _, rs, rfl, ⟨a, rfl, ha2⟩, hst⟩ := hst
  subst hb2; subst ha2
  refine W.lcmp hx hb hd0 ?_
  refine lv_if_ge hx hb hd ht (fun h => ?_) (fun h => ?_)
  · exact kt (Int.not_lt.mp fun q => Int32.not_lt.mpr h (awc_lt.1.mpr q)) p l e R s m args below meth c D dA sA A ad0 sz0 mc ms C ad H locs cells slots ls rs hE hH hL hst hS hk1 hk2
  · exact kf (fun q => h (Int32.not_lt.mp fun z => absurd (awc_lt.1.mp z) (Int.not_lt.mpr q))) p l e R s m args below meth c D dA sA A ad0 sz0 mc ms C ad H locs cells slots ls rs hE hH hL hst hS hk1 hk2
theorem aw_lcmpgt {Z : aZ} {M : aMD} {d kc ks pc : Nat} {L : List (Option aV)} {st : List aV} {G : aG} {x y : Int} {off : Int} {tgt : Nat} (hd0 : decode M.2.1 pc = .ok (.lcmp, 1)) (hd : decode M.2.1 (pc + 1) = .ok (.ifCond .gt off, 3)) (ht : ((pc + 1 : Nat) : Int) + off = (tgt : Int)) (kt : (y < x) → AW Z M d kc ks tgt L st G) (kf : (¬ y < x) → AW Z M d kc ks (pc + 1 + 3) L st G) : AW Z M d kc ks pc L (vL y :: vL x :: st) G := by
  intro p l e R s m args below meth c D dA sA A ad0 sz0 mc ms C ad H locs cells slots ls rst hE hH hL hst hS hk1 hk2
  obtain ⟨hx, hb, hml, hown, hts, hret, hlk, hnm, htab, hR, hV, hA⟩ := id C
  obtain ⟨_, _, rfl, ⟨b, rfl, hb2⟩, _, rs, rfl, ⟨a, rfl, ha2⟩, hst⟩ := hst
  subst hb2; subst ha2
  refine W.lcmp hx hb hd0 ?_
  refine lv_if_gt hx hb hd ht (fun h => ?_) (fun h => ?_)
  · exact kt (awc_lt.2.1.mp h) p l e R s m args below meth c D dA sA A ad0 sz0 mc ms C ad H locs cells slots ls rs hE hH hL hst hS hk1 hk2
  · exact kf (fun q => h (awc_lt.2.1.mpr q)) p l e R s m args below meth c D dA sA A ad0 sz0 mc ms C ad H locs cells slots ls rs hE hH hL hst hS hk1 hk2
theorem aw_lcmple {Z : aZ} {M : aMD} {d kc ks pc : Nat} {L : List (Option aV)} {st : List aV} {G : aG} {x y : Int} {off : Int} {tgt : Nat} (hd0 : decode M.2.1 pc = .ok (.lcmp, 1)) (hd : decode M.2.1 (pc + 1) = .ok (.ifCond .le off, 3)) (ht : ((pc + 1 : Nat) : Int) + off = (tgt : Int)) (kt : (x ≤ y) → AW Z M d kc ks tgt L st G) (kf : (¬ x ≤ y) → AW Z M d kc ks (pc + 1 + 3) L st G) : AW Z M d kc ks pc L (vL y :: vL x :: st) G := by
  intro p l e R s m args below meth c D dA sA A ad0 sz0 mc ms C ad H locs cells slots ls rst hE hH hL hst hS hk1 hk2
  obtain ⟨hx, hb, hml, hown, hts, hret, hlk, hnm, htab, hR, hV, hA⟩ := id C
  obtain ⟨_, _, rfl, ⟨b, rfl, hb2⟩, _, rs, rfl, ⟨a, rfl, ha2⟩, hst⟩ := hst
  subst hb2; subst ha2
  refine W.lcmp hx hb hd0 ?_
  refine lv_if_le hx hb hd ht (fun h => ?_) (fun h => ?_)
  · exact kt (Int.not_lt.mp fun q => Int32.not_lt.mpr h (awc_lt.2.1.mpr q)) p l e R s m args below meth c D dA sA A ad0 sz0 mc ms C ad H locs cells slots ls rs hE hH hL hst hS hk1 hk2
  · exact kf (fun q => h (Int32.not_lt.mp fun z => absurd (awc_lt.2.1.mp z) (Int.not_lt.mpr q))) p l e R s m args below meth c D dA sA A ad0 sz0 mc ms C ad H locs cells slots ls rs hE hH hL hst hS hk1 hk2
theorem aw_tabIn {Z : aZ} {M : aMD} {d kc ks pc : Nat} {L : List (Option aV)} {st : List aV} {G : aG} {dflt lo hi : Int} {offs : Array Int} {len : Nat} {x off : Int} {tgt : Nat} (hd : decode M.2.1 pc = .ok (.tableswitch dflt lo hi offs, len)) (h1 : lo ≤ x) (h2 : x ≤ hi) (ho : offs[(x - lo).toNat]? = some off) (ht : (pc : Int) + off = (tgt : Int)) (k : AW Z M d kc ks tgt L st G) : AW Z M d kc ks pc L (vI x :: st) G := by
  intro p l e R s m args below meth c D dA sA A ad0 sz0 mc ms C ad H locs cells slots ls rst hE hH hL hst hS hk1 hk2
  obtain ⟨hx, hb, hml, hown, hts, hret, hlk, hnm, htab, hR, hV, hA⟩ := id C
  obtain ⟨_, rs, rfl, ⟨a, rfl, ha2⟩, hst⟩ := hst
  subst ha2
  refine lv_tableIn hx hb hd (by omega) (by omega) ho ht ?_
  exact k p l e R s m args below meth c D dA sA A ad0 sz0 mc ms C ad H locs cells slots ls rs hE hH hL hst hS hk1 hk2
theorem aw_tabOut {Z : aZ} {M : aMD} {d kc ks pc : Nat} {L : List (Option aV)} {st : List aV} {G : aG} {dflt lo hi : Int} {offs : Array Int} {len : Nat} {x : Int} {tgt : Nat} (hd : decode M.2.1 pc = .ok (.tableswitch dflt lo hi offs, len)) (h : x < lo ∨ hi < x) (ht : (pc : Int) + dflt = (tgt : Int)) (k : AW Z M d kc ks tgt L st G) : AW Z M d kc ks pc L (vI x :: st) G := by
  intro p l e R s m args below meth c D dA sA A ad0 sz0 mc ms C ad H locs cells slots ls rst hE hH hL hst hS hk1 hk2
  obtain ⟨hx, hb, hml, hown, hts, hret, hlk, hnm, htab, hR, hV, hA⟩ := id C
  obtain ⟨_, rs, rfl, ⟨a, rfl, ha2⟩, hst⟩ := hst
  subst ha2
  refine lv_tableOut hx hb hd h ht ?_
  exact k p l e R s m args below meth c D dA sA A ad0 sz0 mc ms C ad H locs cells slots ls rs hE hH hL hst hS hk1 hk2
