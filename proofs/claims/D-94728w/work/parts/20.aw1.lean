/-! AW, part 1: abstract values, heaps, and what they say of the machine's -/
set_option maxRecDepth 100000
abbrev aV : Type := Int ⊕ (Int ⊕ Int)
abbrev vI (x : Int) : aV := Sum.inl x
abbrev vL (x : Int) : aV := Sum.inr (Sum.inl x)
abbrev vR (x : Int) : aV := Sum.inr (Sum.inr x)
abbrev aIm : Type := Nat × Nat × (Int → Int)
abbrev aG : Type := Int × (Int → aIm) × (Int → Int → Int)
abbrev aRes : Type := Option aV ⊕ (Nat × Int)
abbrev aPost : Type := aRes → aG → Prop
/-- name, code, locals, return type, handlers -/
abbrev aMD : Type := MethodName × ByteArray × Nat × Option FieldType × List (Nat × Nat × Nat × Nat)
def w32 (x : Int) : Int := x.bmod 4294967296
def w64 (x : Int) : Int := x.bmod 18446744073709551616
def w8 (x : Int) : Int := x.bmod 256
def w16 (x : Int) : Int := x.bmod 65536
theorem bmod_id {x : Int} {m : Nat} (h1 : -(m : Int) ≤ 2 * x) (h2 : 2 * x < m) : x.bmod m = x := by
  rw [Int.bmod_def]
  by_cases h : 0 ≤ x
  · have e : x % (m : Int) = x := Int.emod_eq_of_lt h (by omega)
    rw [e, if_pos (by omega)]
  · have e : x % (m : Int) = x + m := by
      rw [← Int.add_emod_right]
      exact Int.emod_eq_of_lt (by omega) (by omega)
    rw [e, if_neg (by omega)]
    omega
theorem w32_id {x : Int} (h1 : -2147483648 ≤ x) (h2 : x < 2147483648) : w32 x = x := bmod_id (by omega) (by omega)
theorem w64_id {x : Int} (h1 : -9223372036854775808 ≤ x) (h2 : x < 9223372036854775808) : w64 x = x := bmod_id (by omega) (by omega)
theorem w8_id {x : Int} (h1 : -128 ≤ x) (h2 : x < 128) : w8 x = x := bmod_id (by omega) (by omega)
theorem w16_id {x : Int} (h1 : -32768 ≤ x) (h2 : x < 32768) : w16 x = x := bmod_id (by omega) (by omega)
theorem i32_lo (r : Int32) : -2147483648 ≤ r.toInt := r.le_toInt
theorem i32_hi (r : Int32) : r.toInt < 2147483648 := r.toInt_lt
theorem i64_lo (r : Int64) : -9223372036854775808 ≤ r.toInt := r.le_toInt
theorem i64_hi (r : Int64) : r.toInt < 9223372036854775808 := r.toInt_lt
/-- the classes of the worlds, by number -/
abbrev awCl : List vw_C := [(RX0, TX0, 16), (RX1, TX1, 1), (RX2, TX2, 8), (RX3, TX3, 7), (RX4, TX4, 2), (RX5, TX5, 12), (RX6, TX6, 8), (RX7, TX7, 36), (RX8, TX8, 7), (RX9, TX9, 11), (RX12, TX12, 3), (RX13, TX13, 6), (RX14, TX14, 5), (RX15, TX15, 7)]
def awTy (c i : Nat) : FieldType := match c with
  | 0 => tyX0 i
  | 1 => tyX1 i
  | 2 => tyX2 i
  | 3 => tyX3 i
  | 4 => tyX4 i
  | 5 => tyX5 i
  | 6 => tyX6 i
  | 7 => tyX7 i
  | 8 => tyX8 i
  | 9 => tyX9 i
  | 10 => tyX12 i
  | 11 => tyX13 i
  | 12 => tyX14 i
  | _ => tyX15 i
def awOk (c : Nat) (q : vw_C) : Prop := (∀ w ∈ u_ws q.1 q.2.1 q.2.2, w ∈ lw_all) ∧ (∀ k, k < q.2.2 → parseFieldDescriptor (q.2.1 k).2.2.1 = some (awTy c k)) ∧ (∀ a, a < q.2.2 → ∀ b, b < q.2.2 → a ≠ b → (q.2.1 a).2.1 ≠ (q.2.1 b).2.1)
theorem awCl_ok : ∀ (c : Nat) (q : vw_C), awCl[c]? = some q → awOk c q := by
  intro c q h
  match c, h with
  | 0, h => cases h; exact ⟨in_X0, tyX0_ok, nmX0⟩
  | 1, h => cases h; exact ⟨in_X1, tyX1_ok, nmX1⟩
  | 2, h => cases h; exact ⟨in_X2, tyX2_ok, nmX2⟩
  | 3, h => cases h; exact ⟨in_X3, tyX3_ok, nmX3⟩
  | 4, h => cases h; exact ⟨in_X4, tyX4_ok, nmX4⟩
  | 5, h => cases h; exact ⟨in_X5, tyX5_ok, nmX5⟩
  | 6, h => cases h; exact ⟨in_X6, tyX6_ok, nmX6⟩
  | 7, h => cases h; exact ⟨in_X7, tyX7_ok, nmX7⟩
  | 8, h => cases h; exact ⟨in_X8, tyX8_ok, nmX8⟩
  | 9, h => cases h; exact ⟨in_X9, tyX9_ok, nmX9⟩
  | 10, h => cases h; exact ⟨in_X12, tyX12_ok, nmX12⟩
  | 11, h => cases h; exact ⟨in_X13, tyX13_ok, nmX13⟩
  | 12, h => cases h; exact ⟨in_X14, tyX14_ok, nmX14⟩
  | 13, h => cases h; exact ⟨in_X15, tyX15_ok, nmX15⟩
  | n + 14, h => simp [awCl] at h
/-- element types of arrays, by number -/
def eT (t : Nat) : FieldType := match t with
  | 0 => .byte
  | 1 => .short
  | 2 => .int
  | 3 => .long
  | 4 => .object "BeeYard$Tray"
  | 5 => .object "BeeYard$Hive"
  | 6 => .object "BeeYard$House"
  | 7 => .array .short
  | _ => .object "BeeYard$Step"
abbrev awTys (dA : Nat → ClassId) : List (ClassId × FieldType) := [(dA 0, eT 0), (dA 1, eT 1), (dA 2, eT 2), (dA 3, eT 3), (dA 4, eT 4), (dA 5, eT 5), (dA 6, eT 6), (dA 7, eT 7), (dA 8, eT 8)]
theorem awTys_get {dA : Nat → ClassId} {t : Nat} (h : t < 9) : (awTys dA)[t]? = some (dA t, eT t) := by
  match t, h with
  | 0, _ => rfl
  | 1, _ => rfl
  | 2, _ => rfl
  | 3, _ => rfl
  | 4, _ => rfl
  | 5, _ => rfl
  | 6, _ => rfl
  | 7, _ => rfl
  | 8, _ => rfl
  | n + 9, h => omega
def refO (ad : Int → Nat) (sz : Int) (x : Int) (o : Option Nat) : Prop := (x = -1 ∧ o = none) ∨ (0 ≤ x ∧ x < sz ∧ o = some (ad x))
def rfk (sA : Nat → Nat) (ad : Int → Nat) (sz : Int) (x : Int) (v : Value) : Prop :=
  (x = -1 ∧ v = .null) ∨ (0 ≤ x ∧ x < sz ∧ v = .ref (ad x)) ∨ (∃ k : Nat, x = -2 - (k : Int) ∧ k < 48 ∧ v = .ref (sA k)) ∨ (x = -1000 ∧ (v = .null ∨ ∃ q, v = .ref q))
theorem refO.rfk {sA : Nat → Nat} {ad : Int → Nat} {sz x : Int} {o : Option Nat} (h : refO ad sz x o) : rfk sA ad sz x (va_rf o) := by
  rcases h with ⟨h1, rfl⟩ | ⟨h1, h2, rfl⟩
  · exact Or.inl ⟨h1, rfl⟩
  · exact Or.inr (Or.inl ⟨h1, h2, rfl⟩)
def vkT (sA : Nat → Nat) (ad : Int → Nat) (sz : Int) (t : FieldType) (x : Int) (v : Value) : Prop := match t with
  | .int => ∃ r : Int32, v = .int r ∧ x = r.toInt
  | .boolean => ∃ r : Int32, v = .int r ∧ x = r.toInt ∧ (x = 0 ∨ x = 1)
  | .long => ∃ r : Int64, v = .long r ∧ x = r.toInt
  | _ => rfk sA ad sz x v
def vok (sA : Nat → Nat) (ad : Int → Nat) (sz : Int) (a : aV) (v : Value) : Prop := match a with
  | .inl x => ∃ r : Int32, v = .int r ∧ x = r.toInt
  | .inr (.inl x) => ∃ r : Int64, v = .long r ∧ x = r.toInt
  | .inr (.inr x) => rfk sA ad sz x v
def vtag (t : FieldType) (x : Int) : aV := match t with
  | .int => vI x
  | .boolean => vI x
  | .long => vL x
  | _ => vR x
theorem vkT.vok {sA : Nat → Nat} {ad : Int → Nat} {sz : Int} {t : FieldType} {x : Int} {v : Value} (h : vkT sA ad sz t x v) : vok sA ad sz (vtag t x) v := by
  cases t with
  | int => exact h
  | boolean => obtain ⟨r, h1, h2, -⟩ := h; exact ⟨r, h1, h2⟩
  | long => exact h
  | _ => exact h
theorem vok_cat {sA : Nat → Nat} {ad : Int → Nat} {sz : Int} {a : aV} {v : Value} (h : vok sA ad sz a v) : v.category = (match a with | .inr (.inl _) => 2 | _ => 1) := by
  rcases a with x | x | x
  · obtain ⟨r, rfl, -⟩ := h; rfl
  · obtain ⟨r, rfl, -⟩ := h; rfl
  · rcases h with ⟨-, rfl⟩ | ⟨-, -, rfl⟩ | ⟨k, -, -, rfl⟩ | ⟨-, rfl | ⟨q, rfl⟩⟩ <;> rfl
def AEX (ad0 : Int → Nat) (sz0 : Int) (ad : Int → Nat) (sz : Int) : Prop := sz0 ≤ sz ∧ ∀ a, a < sz0 → ad a = ad0 a
theorem AEX.rf {ad : Int → Nat} {sz : Int} : AEX ad sz ad sz := ⟨Int.le_refl _, fun _ _ => rfl⟩
theorem AEX.trans {a b c : Int → Nat} {x y z : Int} (h1 : AEX a x b y) (h2 : AEX b y c z) : AEX a x c z := ⟨Int.le_trans h1.1 h2.1, fun q hq => (h2.2 q (Int.lt_of_lt_of_le hq h1.1)).trans (h1.2 q hq)⟩
theorem refO.mono {ad ad' : Int → Nat} {sz sz' x : Int} {o : Option Nat} (h : AEX ad sz ad' sz') (k : refO ad sz x o) : refO ad' sz' x o := by
  rcases k with k | ⟨k1, k2, k3⟩
  · exact Or.inl k
  · exact Or.inr ⟨k1, Int.lt_of_lt_of_le k2 h.1, by rw [h.2 x k2]; exact k3⟩
theorem rfk.mono {sA : Nat → Nat} {ad ad' : Int → Nat} {sz sz' x : Int} {v : Value} (h : AEX ad sz ad' sz') (k : rfk sA ad sz x v) : rfk sA ad' sz' x v := by
  rcases k with k | ⟨k1, k2, k3⟩ | k | k
  · exact Or.inl k
  · exact Or.inr (Or.inl ⟨k1, Int.lt_of_lt_of_le k2 h.1, by rw [h.2 x k2]; exact k3⟩)
  · exact Or.inr (Or.inr (Or.inl k))
  · exact Or.inr (Or.inr (Or.inr k))
theorem vkT.mono {sA : Nat → Nat} {ad ad' : Int → Nat} {sz sz' x : Int} {t : FieldType} {v : Value} (h : AEX ad sz ad' sz') (k : vkT sA ad sz t x v) : vkT sA ad' sz' t x v := by
  cases t with
  | int => exact k
  | boolean => exact k
  | long => exact k
  | _ => exact rfk.mono h k
theorem vok.mono {sA : Nat → Nat} {ad ad' : Int → Nat} {sz sz' : Int} {a : aV} {v : Value} (h : AEX ad sz ad' sz') (k : vok sA ad sz a v) : vok sA ad' sz' a v := by
  rcases a with x | x | x
  · exact k
  · exact k
  · exact rfk.mono h k
/-- a stack, or a list of arguments -/
def srel (sA : Nat → Nat) (ad : Int → Nat) (sz : Int) : List aV → List Value → Prop
  | [], r => r = []
  | a :: l, r => ∃ v r', r = v :: r' ∧ vok sA ad sz a v ∧ srel sA ad sz l r'
theorem srel.mono {sA : Nat → Nat} {ad ad' : Int → Nat} {sz sz' : Int} (h : AEX ad sz ad' sz') : ∀ {l : List aV} {r : List Value}, srel sA ad sz l r → srel sA ad' sz' l r
  | [], _, k => k
  | _ :: _, _, ⟨v, r', k1, k2, k3⟩ => ⟨v, r', k1, vok.mono h k2, srel.mono h k3⟩
theorem srel.app {sA : Nat → Nat} {ad : Int → Nat} {sz : Int} : ∀ {l l2 : List aV} {r r2 : List Value}, srel sA ad sz l r → srel sA ad sz l2 r2 → srel sA ad sz (l ++ l2) (r ++ r2)
  | [], _, _, _, k, k2 => by cases k; exact k2
  | _ :: _, _, _, _, ⟨v, r', k1, k2, k3⟩, k4 => by subst k1; exact ⟨v, _, rfl, k2, srel.app k3 k4⟩
theorem srel.split {sA : Nat → Nat} {ad : Int → Nat} {sz : Int} : ∀ {l l2 : List aV} {r : List Value}, srel sA ad sz (l ++ l2) r → ∃ r1 r2, r = r1 ++ r2 ∧ srel sA ad sz l r1 ∧ srel sA ad sz l2 r2 ∧ r1.length = l.length
  | [], _, r, k => ⟨[], r, rfl, rfl, k, rfl⟩
  | _ :: _, _, _, ⟨v, r', k1, k2, k3⟩ => by
    obtain ⟨r1, r2, e, h1, h2, h3⟩ := srel.split k3
    subst k1; subst e
    exact ⟨v :: r1, r2, rfl, ⟨v, r1, rfl, k2, h1⟩, h2, by simp [h3]⟩
theorem srel.rev {sA : Nat → Nat} {ad : Int → Nat} {sz : Int} : ∀ {l : List aV} {r : List Value}, srel sA ad sz l r → srel sA ad sz l.reverse r.reverse
  | [], _, k => by cases k; rfl
  | a :: l, _, ⟨v, r', k1, k2, k3⟩ => by
    subst k1
    rw [List.reverse_cons, List.reverse_cons]
    exact srel.app (srel.rev k3) ⟨v, [], rfl, k2, rfl⟩
theorem srel.len {sA : Nat → Nat} {ad : Int → Nat} {sz : Int} : ∀ {l : List aV} {r : List Value}, srel sA ad sz l r → r.length = l.length
  | [], _, k => by cases k; rfl
  | _ :: _, _, ⟨v, r', k1, _, k3⟩ => by subst k1; simp [srel.len k3]
def stW : List aV → Nat
  | [] => 0
  | .inr (.inl _) :: l => 2 + stW l
  | .inl _ :: l => 1 + stW l
  | .inr (.inr _) :: l => 1 + stW l
theorem srel.cat {sA : Nat → Nat} {ad : Int → Nat} {sz : Int} : ∀ {l : List aV} {r : List Value}, srel sA ad sz l r → (r.map fun v => v.category).sum = stW l
  | [], _, k => by cases k; rfl
  | a :: l, _, ⟨v, r', k1, k2, k3⟩ => by
    subst k1
    have h1 := vok_cat k2
    have h2 := srel.cat k3
    rcases a with x | x | x <;> simp only [List.map_cons, List.sum_cons, h1, h2, stW]
/-- locals, by slots -/
def lrel (sA : Nat → Nat) (ad : Int → Nat) (sz : Int) (L : List (Option aV)) (ls : Array Slot) (nL : Nat) : Prop :=
  L.length ≤ nL ∧ ∃ lv : List (Nat × Value), lv_has ls nL lv ∧ ∀ (i : Nat) (a : aV), L[i]? = some (some a) → ∃ v, (i, v) ∈ lv ∧ vok sA ad sz a v
theorem lrel.mono {sA : Nat → Nat} {ad ad' : Int → Nat} {sz sz' : Int} {L : List (Option aV)} {ls : Array Slot} {nL : Nat} (h : AEX ad sz ad' sz') (k : lrel sA ad sz L ls nL) : lrel sA ad' sz' L ls nL := by
  obtain ⟨k0, lv, k1, k2⟩ := k
  refine ⟨k0, lv, k1, fun i a hi => ?_⟩
  obtain ⟨v, e1, e2⟩ := k2 i a hi
  exact ⟨v, e1, vok.mono h e2⟩
theorem lrel.get {sA : Nat → Nat} {ad : Int → Nat} {sz : Int} {L : List (Option aV)} {ls : Array Slot} {nL i : Nat} {a : aV} (k : lrel sA ad sz L ls nL) (hi : L[i]? = some (some a)) : ∃ v, ls[i]? = some (.val v) ∧ vok sA ad sz a v := by
  obtain ⟨-, lv, k1, k2⟩ := k
  obtain ⟨v, e1, e2⟩ := k2 i a hi
  exact ⟨v, k1.2.2 _ e1, e2⟩
def nl (a : Option (Option aV)) : Bool := match a with
  | some (some (.inr (.inl _))) => false
  | _ => true
/-- no long in the slot below i -/
def nolong (L : List (Option aV)) : Nat → Bool
  | 0 => true
  | i + 1 => nl (L[i]?)
theorem lrel.set1 {sA : Nat → Nat} {ad : Int → Nat} {sz : Int} {L : List (Option aV)} {ls' : Array Slot} {nL i : Nat} {a : aV} {x : Value} {lv0 : List (Nat × Value)} (k0 : L.length ≤ nL) (k2 : ∀ (i : Nat) (a : aV), L[i]? = some (some a) → ∃ v, (i, v) ∈ lv0 ∧ vok sA ad sz a v)
    (h' : lv_has ls' nL ((i, x) :: lv0.filter (fun q => !(q.1 == i) && !(q.1 + 1 == i && q.2.category == 2)))) (hx : vok sA ad sz a x) (hno : nolong L i = true) : lrel sA ad sz (L.set i (some a)) ls' nL := by
  refine ⟨by simpa using k0, _, h', fun j b hj => ?_⟩
  by_cases hji : j = i
  · subst hji
    by_cases hl : j < L.length
    · rw [List.getElem?_set_self hl] at hj
      cases hj
      exact ⟨x, List.mem_cons_self, hx⟩
    · rw [List.getElem?_set, if_pos rfl, if_neg hl] at hj
      cases hj
  · rw [List.getElem?_set_ne (Ne.symm hji)] at hj
    obtain ⟨v, e1, e2⟩ := k2 j b hj
    refine ⟨v, List.mem_cons_of_mem _ (List.mem_filter.mpr ⟨e1, ?_⟩), e2⟩
    have hc := vok_cat e2
    by_cases hj1 : j + 1 = i
    · subst hj1
      rcases b with b | b | b
      · simp [hji, hc]
      · simp only [nolong, hj, nl] at hno
        cases hno
      · simp [hji, hc]
    · simp [hji, hj1]
theorem lrel.set2 {sA : Nat → Nat} {ad : Int → Nat} {sz : Int} {L : List (Option aV)} {ls' : Array Slot} {nL i : Nat} {a : aV} {x : Value} {lv0 : List (Nat × Value)} (k0 : L.length ≤ nL) (k2 : ∀ (i : Nat) (a : aV), L[i]? = some (some a) → ∃ v, (i, v) ∈ lv0 ∧ vok sA ad sz a v)
    (h' : lv_has ls' nL ((i, x) :: lv0.filter (fun q => !(q.1 == i) && (!(q.1 == i + 1) && !(q.1 + 1 == i && q.2.category == 2))))) (hx : vok sA ad sz a x) (hno : nolong L i = true) : lrel sA ad sz ((L.set i (some a)).set (i + 1) none) ls' nL := by
  refine ⟨by simpa using k0, _, h', fun j b hj => ?_⟩
  by_cases hj2 : j = i + 1
  · subst hj2
    rw [List.getElem?_set, if_pos rfl] at hj
    split at hj <;> cases hj
  rw [List.getElem?_set_ne (Ne.symm hj2)] at hj
  by_cases hji : j = i
  · subst hji
    by_cases hl : j < L.length
    · rw [List.getElem?_set_self hl] at hj
      cases hj
      exact ⟨x, List.mem_cons_self, hx⟩
    · rw [List.getElem?_set, if_pos rfl, if_neg hl] at hj
      cases hj
  · rw [List.getElem?_set_ne (Ne.symm hji)] at hj
    obtain ⟨v, e1, e2⟩ := k2 j b hj
    refine ⟨v, List.mem_cons_of_mem _ (List.mem_filter.mpr ⟨e1, ?_⟩), e2⟩
    have hc := vok_cat e2
    by_cases hj1 : j + 1 = i
    · subst hj1
      rcases b with b | b | b
      · simp [hji, hj2, hc]
      · simp only [nolong, hj, nl] at hno
        cases hno
      · simp [hji, hj2, hc]
    · simp [hji, hj2, hj1]
/-- a cell -/
def relE (dA : Nat → ClassId) (sA : Nat → Nat) (ad : Int → Nat) (sz : Int) (k : aIm) (f : Int → Int) (e : va_E) : Prop :=
  (∃ (q : vw_C) (fs : List Value), awCl[k.1]? = some q ∧ e = .inr (k.1, fs) ∧ fs.length = q.2.2 ∧ ∀ i : Nat, i < q.2.2 → vkT sA ad sz (awTy k.1 i) (if (q.2.1 i).2.2.2 = true then k.2.2 i else f i) (vp_V fs i)) ∨
  (∃ t, k.1 = 50 + t ∧ t < 3 ∧ k.2.1 < 2147483648 ∧ ∃ g : Nat → Int32, e = .inl (dA t, k.2.1, .inl g) ∧ ∀ j : Nat, j < k.2.1 → f j = (g j).toInt ∧ fits (eT t) (.int (g j)) = true) ∨
  (k.1 = 53 ∧ k.2.1 < 2147483648 ∧ ∃ g : Nat → Int64, e = .inl (dA 3, k.2.1, .inr (.inl g)) ∧ ∀ j : Nat, j < k.2.1 → f j = (g j).toInt) ∨
  (∃ t, k.1 = 50 + t ∧ 4 ≤ t ∧ t < 9 ∧ k.2.1 < 2147483648 ∧ ∃ g : Nat → Option Nat, e = .inl (dA t, k.2.1, .inr (.inr (.inr (.inr g)))) ∧ ∀ j : Nat, j < k.2.1 → refO ad sz (f j) (g j))
theorem relE.mono {dA : Nat → ClassId} {sA : Nat → Nat} {ad ad' : Int → Nat} {sz sz' : Int} {k : aIm} {f : Int → Int} {e : va_E} (h : AEX ad sz ad' sz') (r : relE dA sA ad sz k f e) : relE dA sA ad' sz' k f e := by
  rcases r with ⟨q, fs, h1, h2, h3, h4⟩ | h | h | ⟨t, h1, h2, h3, h4, g, h5, h6⟩
  · exact Or.inl ⟨q, fs, h1, h2, h3, fun i hi => (h4 i hi).mono h⟩
  · exact Or.inr (Or.inl h)
  · exact Or.inr (Or.inr (Or.inl h))
  · exact Or.inr (Or.inr (Or.inr ⟨t, h1, h2, h3, h4, g, h5, fun j hj => (h6 j hj).mono h⟩))
def wsl (n : Nat) (ad : Int → Nat) (E : Nat → va_E) : va_W := (List.range n).map fun (a : Nat) => (ad (a : Int), E a)
theorem wsl_get {n : Nat} {ad : Int → Nat} {E : Nat → va_E} {a : Nat} (h : a < n) : (wsl n ad E)[a]? = some (ad a, E a) := by
  simp [wsl, h]
theorem wsl_len (n : Nat) (ad : Int → Nat) (E : Nat → va_E) : (wsl n ad E).length = n := by simp [wsl]
theorem wsl_get' {n : Nat} {ad : Int → Nat} {E : Nat → va_E} {a : Nat} {q : Nat × va_E} (h : (wsl n ad E)[a]? = some q) : a < n ∧ q = (ad a, E a) := by
  have h1 : a < (wsl n ad E).length := (List.getElem?_eq_some_iff.mp h).1
  rw [wsl_len] at h1
  rw [wsl_get h1] at h
  exact ⟨h1, (Option.some.inj h).symm⟩
theorem wsl_set {n : Nat} {ad : Int → Nat} {E : Nat → va_E} {a : Nat} {e : va_E} (h : a < n) : (wsl n ad E).set a (ad a, e) = wsl n ad (va_up E a e) := by
  apply List.ext_getElem?
  intro i
  by_cases hi : i < n
  · by_cases hia : i = a
    · subst hia
      rw [List.getElem?_set_self (by rw [wsl_len]; exact h), wsl_get hi]
      simp [va_up]
    · rw [List.getElem?_set_ne (Ne.symm hia), wsl_get hi, wsl_get hi]
      simp [va_up, hia]
  · rw [List.getElem?_eq_none (by rw [List.length_set, wsl_len]; omega), List.getElem?_eq_none (by rw [wsl_len]; omega)]
def adp (ad : Int → Nat) (sz : Int) (q : Nat) : Int → Nat := fun a => if a = sz then q else ad a
theorem wsl_push {n : Nat} {ad : Int → Nat} {E : Nat → va_E} {q : Nat} {e : va_E} : wsl n ad E ++ [(q, e)] = wsl (n + 1) (adp ad n q) (va_up E n e) := by
  apply List.ext_getElem?
  intro i
  by_cases hi : i < n
  · rw [List.getElem?_append_left (by rw [wsl_len]; exact hi), wsl_get hi, wsl_get (by omega)]
    have h1 : ¬ (i : Int) = n := by omega
    have h2 : ¬ i = n := by omega
    simp [adp, va_up, h1, h2]
  · by_cases hi2 : i = n
    · subst hi2
      rw [List.getElem?_append_right (by rw [wsl_len]; omega), wsl_len, Nat.sub_self, wsl_get (by omega)]
      simp [adp, va_up]
    · rw [List.getElem?_eq_none (by rw [List.length_append, wsl_len]; simp; omega), List.getElem?_eq_none (by rw [wsl_len]; omega)]
theorem adp_ex {ad : Int → Nat} {n : Int} {q : Nat} : AEX ad n (adp ad n q) (n + 1) := ⟨by omega, fun a ha => by unfold adp; rw [if_neg (by omega)]⟩
/-- the heap -/
def HR (D : va_G) (dA : Nat → ClassId) (sA : Nat → Nat) (A : Nat → Prop) (ad : Int → Nat) (G : aG) (H : Heap) : Prop :=
  ∃ (n : Nat) (E : Nat → va_E), G.1 = n ∧ (∀ a : Nat, a < n → relE dA sA ad G.1 (G.2.1 a) (G.2.2 a) (E a)) ∧ va_P D awCl (wsl n ad E) H ∧ va_D A (wsl n ad E)
def aup (ct : Int → Int → Int) (a i v : Int) : Int → Int → Int := fun b j => if b = a ∧ j = i then v else ct b j
def aob (sz : Int) (im : Int → aIm) (a : Int) (c : Nat) : Prop := 0 ≤ a ∧ a < sz ∧ (im a).1 = c
def aar (sz : Int) (im : Int → aIm) (a : Int) (t : Nat) (n : Int) : Prop := 0 ≤ a ∧ a < sz ∧ (im a).1 = 50 + t ∧ ((im a).2.1 : Int) = n
