set_option maxRecDepth 100000
/-! what the machine throws -/
theorem lw_sub (ws : List Cond) (h : ws.all (fun w => decide (w ∈ lw_tbl) && (goodWord w || isN w)) = true) : ∀ w ∈ ws, w ∈ lw_tbl ∧ (goodWord w = true ∨ isN w = true) := fun w hw => by
  have := List.all_eq_true.mp h w hw
  rw [Bool.and_eq_true, Bool.or_eq_true] at this
  exact ⟨of_decide_eq_true this.1, this.2⟩
abbrev vmN (E : Nat) : List String := if E = 2 then ["java/lang/RuntimeException", "java/lang/Exception"] else ["java/lang/IndexOutOfBoundsException", "java/lang/RuntimeException", "java/lang/Exception"]
def vmW (E : Nat) : Prop := (∀ w ∈ vx_atM (exN E) (vmN E), w ∈ lw_tbl ∧ (goodWord w = true ∨ isN w = true)) ∧ (∀ w ∈ vx_atM (exN E) (vmN E), vx_ot w = true) ∧ Bundle.fit (exN E) = true ∧ (∀ n ∈ vmN E, Bundle.fit n = true) ∧ (exN E == "java/lang/StackOverflowError") = false ∧ (exN E == "java/lang/OutOfMemoryError") = false ∧ (vmN E).length ≤ 3
theorem vmW2 : vmW 2 := ⟨lw_sub _ (by decide +kernel), by decide +kernel, by decide +kernel, by decide +kernel, by decide +kernel, by decide +kernel, by decide⟩
theorem vmW3 : vmW 3 := ⟨lw_sub _ (by decide +kernel), by decide +kernel, by decide +kernel, by decide +kernel, by decide +kernel, by decide +kernel, by decide⟩
theorem vm_note {p : Program} {l : Launch} {e : Env} {R : Room} {s : State} {m : MethodId} {args : Array Value} {below : List Frame} {meth : Method} {c : Code} {D : va_G} {dA : Nat → ClassId} {sA : Nat → Nat} {A : Nat → Prop} {ad0 : Int → Nat} {sz0 : Int} {mc ms : Nat} {Z : aZ} {M : aMD} {d kc ks pc : Nat} {L : List (Option aV)} {st : List aV} {G : aG} {E : Nat} (hW : vmW E) (hd9 : 161 ≤ d) (hw : stW st ≤ 8) (k : AX Z M d kc ks pc L E (-1000) G) (C : ACX M d p l e R s m args meth c D dA sA A mc ms) {ad : Int → Nat} {H : Heap} {locs : List Loc} {cells slots : Nat} {ls : Array Slot} {rst : List Value} (hE : AEX ad0 sz0 ad G.1) (hH : HR D dA sA A ad G H) (hL : lrel sA ad G.1 L ls M.2.2.1) (hst : srel sA ad G.1 st rst) (hS : va_S A s.heap H locs) (hk1 : cells + (kc + 3) ≤ mc) (hk2 : slots + (ks + 222) ≤ ms) {text : String} (ht : (text == notModelled) = false) (hnb : (stringBytes (stringToUtf16 text)).size ≤ 212) : vx_Note p l e R s m args below meth c H locs cells slots (Z l below args s D dA sA A ad0 sz0 mc ms) (F0 m pc ls rst) (exN E) text := by
  obtain ⟨hx, hb, hml, hown, hts, hret, hlk, hnm, htab, hR, hV, hA⟩ := id C
  obtain ⟨w1, w2, w3, w4, w5, w6, w7⟩ := hW
  have hcat := hst.cat
  obtain ⟨lv, hlv, -⟩ := hL.2
  refine vx_vm (cls := exN E) (names := vmN E) (nb := 212) (A := A) hx hV.1 w3 w4 w5 w6 (fun w hw9 => ?_) w2 hV.2.2.2.2.2.2.2.1 hV.2.2.2.2.2.2.2.2.1 hS (hlv.1.trans hml.symm) ht hnb (by decide) (by omega) (by omega) (by omega) (by omega) (by omega) hlk (fun H1 q9 ce h1 h2 h3 h4 h5 h6 => ?_)
  · obtain ⟨z1, z2⟩ := w1 w hw9
    rcases z2 with z2 | z2
    · exact hts _ (List.mem_filter.mpr ⟨z1, z2⟩)
    · exact va_Nw.use (by cases w <;> first | rfl | cases z2) (hV.2.2.1 _ z1 z2)
  · obtain ⟨n, EE, g1, g2, g3, g4⟩ := id hH
    exact k p l e R s m args below meth c D dA sA A ad0 sz0 mc ms C ad H1 locs (cells + 3) (slots + (212 + 10)) ls rst q9 ce hE ⟨n, EE, g1, g2, g3.kept fun k q hk => h2 _ (vx_lt g3 hk), g4⟩ hL h3 (by omega) (by omega) (Or.inr (Or.inr (Or.inr ⟨rfl, Or.inr ⟨q9, rfl⟩⟩))) h4 h5 h6
theorem aw_newarrZ {Z : aZ} {M : aMD} {d kc ks pc : Nat} {L : List (Option aV)} {st : List aV} {G : aG} {t : ArrayType} {n : Int} (hd : decode M.2.1 pc = .ok (.newarray t, 2)) (h0 : n < 0) (hd9 : 161 ≤ d) (hw : stW st ≤ 8) (k : AX Z M d kc ks pc L 2 (-1000) G) : AW Z M d (kc + 3) (ks + 222) pc L (vI n :: st) G := by
  intro p l e R s m args below meth c0 D dA sA A ad0 sz0 mc ms C ad H locs cells slots ls rst hE hH hL hst hS hk1 hk2
  obtain ⟨hx, hb, hml, hown, hts, hret, hlk, hnm, htab, hR, hV, hA⟩ := id C
  obtain ⟨_, rs, rfl, ⟨ri, rfl, hri⟩, hst⟩ := hst
  subst hri
  have h9 : ri < 0 := Int32.lt_iff_toInt_lt.mpr (by simpa using h0)
  exact vx_newarrayZ hx hb h9 hd (fun tx hx9 => vm_note vmW2 hd9 hw k C hE hH hL hst hS (by omega) (by omega) (by rw [hx9]; exact negative_text_modelled h9) (by rw [hx9]; have := negative_text_bytes ri; omega))
theorem vp_no {r : Int32} {N : Nat} (h : ¬ (0 ≤ r.toInt ∧ r.toInt < N)) : ¬ vp_in r N := fun z => h (vp_in_iff.mp z)

theorem aw_baloadZ {Z : aZ} {M : aMD} {d kc ks pc : Nat} {L : List (Option aV)} {st : List aV} {sz : Int} {im : Int → aIm} {ct : Int → Int → Int} {a j N : Int} (hd : decode M.2.1 pc = .ok (.baload, 1)) (ha : aar sz im a 0 N) (hN : N < 1000) (h0 : ¬ (0 ≤ j ∧ j < N)) (hd9 : 161 ≤ d) (hw : stW st ≤ 8) (k : AX Z M d kc ks pc L 3 (-1000) (sz, im, ct)) : AW Z M d (kc + 3) (ks + 222) pc L (vI j :: vR a :: st) (sz, im, ct) := by
  intro p l e R s m args below meth c0 D dA sA A ad0 sz0 mc ms C ad H locs cells slots ls rst hE hH hL hst hS hk1 hk2
  obtain ⟨hx, hb, hml, hown, hts, hret, hlk, hnm, htab, hR, hV, hA⟩ := id C
  obtain ⟨_, _, rfl, ⟨ri, rfl, hri⟩, _, rs, rfl, h1, hst⟩ := hst
  subst hri
  obtain ⟨n, E, hn, h2, hP, hD⟩ := id hH
  try dsimp only at h2
  obtain ⟨o0, o1, o2, o3⟩ := ha
  obtain ⟨b, rfl⟩ := Int.nat_of o0
  have hlt : b < n := by have h9 : sz = (n : Int) := hn; omega
  obtain rfl := vokR h1
  obtain ⟨hsm, g, e1, e2⟩ := (h2 b hlt).sm o2 (by decide)
  refine vx_baldZ hx hb hV.2.1 hP b 0 (by rw [wsl_get hlt, e1]) (awTys_get (by decide)) (vp_no (by omega)) hd (fun tx hx9 => vm_note vmW3 hd9 hw k C hE hH hL hst hS (by omega) (by omega) (by rw [hx9]; exact index_text_modelled _ _) (by rw [hx9]; exact index_text_bytes _ (by omega)))
theorem aw_saloadZ {Z : aZ} {M : aMD} {d kc ks pc : Nat} {L : List (Option aV)} {st : List aV} {sz : Int} {im : Int → aIm} {ct : Int → Int → Int} {a j N : Int} (hd : decode M.2.1 pc = .ok (.saload, 1)) (ha : aar sz im a 1 N) (hN : N < 1000) (h0 : ¬ (0 ≤ j ∧ j < N)) (hd9 : 161 ≤ d) (hw : stW st ≤ 8) (k : AX Z M d kc ks pc L 3 (-1000) (sz, im, ct)) : AW Z M d (kc + 3) (ks + 222) pc L (vI j :: vR a :: st) (sz, im, ct) := by
  intro p l e R s m args below meth c0 D dA sA A ad0 sz0 mc ms C ad H locs cells slots ls rst hE hH hL hst hS hk1 hk2
  obtain ⟨hx, hb, hml, hown, hts, hret, hlk, hnm, htab, hR, hV, hA⟩ := id C
  obtain ⟨_, _, rfl, ⟨ri, rfl, hri⟩, _, rs, rfl, h1, hst⟩ := hst
  subst hri
  obtain ⟨n, E, hn, h2, hP, hD⟩ := id hH
  try dsimp only at h2
  obtain ⟨o0, o1, o2, o3⟩ := ha
  obtain ⟨b, rfl⟩ := Int.nat_of o0
  have hlt : b < n := by have h9 : sz = (n : Int) := hn; omega
  obtain rfl := vokR h1
  obtain ⟨hsm, g, e1, e2⟩ := (h2 b hlt).sm o2 (by decide)
  refine vx_saldZ hx hb hV.2.1 hP b 1 (by rw [wsl_get hlt, e1]) (awTys_get (by decide)) (vp_no (by omega)) hd (fun tx hx9 => vm_note vmW3 hd9 hw k C hE hH hL hst hS (by omega) (by omega) (by rw [hx9]; exact index_text_modelled _ _) (by rw [hx9]; exact index_text_bytes _ (by omega)))
theorem aw_ialoadZ {Z : aZ} {M : aMD} {d kc ks pc : Nat} {L : List (Option aV)} {st : List aV} {sz : Int} {im : Int → aIm} {ct : Int → Int → Int} {a j N : Int} (hd : decode M.2.1 pc = .ok (.iaload, 1)) (ha : aar sz im a 2 N) (hN : N < 1000) (h0 : ¬ (0 ≤ j ∧ j < N)) (hd9 : 161 ≤ d) (hw : stW st ≤ 8) (k : AX Z M d kc ks pc L 3 (-1000) (sz, im, ct)) : AW Z M d (kc + 3) (ks + 222) pc L (vI j :: vR a :: st) (sz, im, ct) := by
  intro p l e R s m args below meth c0 D dA sA A ad0 sz0 mc ms C ad H locs cells slots ls rst hE hH hL hst hS hk1 hk2
  obtain ⟨hx, hb, hml, hown, hts, hret, hlk, hnm, htab, hR, hV, hA⟩ := id C
  obtain ⟨_, _, rfl, ⟨ri, rfl, hri⟩, _, rs, rfl, h1, hst⟩ := hst
  subst hri
  obtain ⟨n, E, hn, h2, hP, hD⟩ := id hH
  try dsimp only at h2
  obtain ⟨o0, o1, o2, o3⟩ := ha
  obtain ⟨b, rfl⟩ := Int.nat_of o0
  have hlt : b < n := by have h9 : sz = (n : Int) := hn; omega
  obtain rfl := vokR h1
  obtain ⟨hsm, g, e1, e2⟩ := (h2 b hlt).sm o2 (by decide)
  refine vx_ialdZ hx hb hV.2.1 hP b 2 (by rw [wsl_get hlt, e1]) (awTys_get (by decide)) (vp_no (by omega)) hd (fun tx hx9 => vm_note vmW3 hd9 hw k C hE hH hL hst hS (by omega) (by omega) (by rw [hx9]; exact index_text_modelled _ _) (by rw [hx9]; exact index_text_bytes _ (by omega)))
theorem aw_laloadZ {Z : aZ} {M : aMD} {d kc ks pc : Nat} {L : List (Option aV)} {st : List aV} {sz : Int} {im : Int → aIm} {ct : Int → Int → Int} {a j N : Int} (hd : decode M.2.1 pc = .ok (.laload, 1)) (ha : aar sz im a 3 N) (hN : N < 1000) (h0 : ¬ (0 ≤ j ∧ j < N)) (hd9 : 161 ≤ d) (hw : stW st ≤ 8) (k : AX Z M d kc ks pc L 3 (-1000) (sz, im, ct)) : AW Z M d (kc + 3) (ks + 222) pc L (vI j :: vR a :: st) (sz, im, ct) := by
  intro p l e R s m args below meth c0 D dA sA A ad0 sz0 mc ms C ad H locs cells slots ls rst hE hH hL hst hS hk1 hk2
  obtain ⟨hx, hb, hml, hown, hts, hret, hlk, hnm, htab, hR, hV, hA⟩ := id C
  obtain ⟨_, _, rfl, ⟨ri, rfl, hri⟩, _, rs, rfl, h1, hst⟩ := hst
  subst hri
  obtain ⟨n, E, hn, h2, hP, hD⟩ := id hH
  try dsimp only at h2
  obtain ⟨o0, o1, o2, o3⟩ := ha
  obtain ⟨b, rfl⟩ := Int.nat_of o0
  have hlt : b < n := by have h9 : sz = (n : Int) := hn; omega
  obtain rfl := vokR h1
  obtain ⟨hsm, g, e1, e2⟩ := (h2 b hlt).lg o2
  refine vx_laldZ hx hb hV.2.1 hP b 3 (by rw [wsl_get hlt, e1]) (awTys_get (by decide)) (vp_no (by omega)) hd (fun tx hx9 => vm_note vmW3 hd9 hw k C hE hH hL hst hS (by omega) (by omega) (by rw [hx9]; exact index_text_modelled _ _) (by rw [hx9]; exact index_text_bytes _ (by omega)))
theorem aw_bastoreZ {Z : aZ} {M : aMD} {d kc ks pc : Nat} {L : List (Option aV)} {st : List aV} {sz : Int} {im : Int → aIm} {ct : Int → Int → Int} {a j x N : Int} (hd : decode M.2.1 pc = .ok (.bastore, 1)) (ha : aar sz im a 0 N) (hN : N < 1000) (h0 : ¬ (0 ≤ j ∧ j < N)) (hd9 : 161 ≤ d) (hw : stW st ≤ 8) (k : AX Z M d kc ks pc L 3 (-1000) (sz, im, ct)) : AW Z M d (kc + 3) (ks + 222) pc L (vI x :: vI j :: vR a :: st) (sz, im, ct) := by
  intro p l e R s m args below meth c0 D dA sA A ad0 sz0 mc ms C ad H locs cells slots ls rst hE hH hL hst hS hk1 hk2
  obtain ⟨hx, hb, hml, hown, hts, hret, hlk, hnm, htab, hR, hV, hA⟩ := id C
  obtain ⟨_, _, rfl, ⟨rx, rfl, hrx⟩, _, _, rfl, ⟨ri, rfl, hri⟩, _, rs, rfl, h1, hst⟩ := hst
  subst hri
  obtain ⟨n, E, hn, h2, hP, hD⟩ := id hH
  try dsimp only at h2
  obtain ⟨o0, o1, o2, o3⟩ := ha
  obtain ⟨b, rfl⟩ := Int.nat_of o0
  have hlt : b < n := by have h9 : sz = (n : Int) := hn; omega
  obtain rfl := vokR h1
  obtain ⟨hsm, g, e1, e2⟩ := (h2 b hlt).sm o2 (by decide)
  refine vx_bastZ hx hb hV.2.1 hP b 0 (by rw [wsl_get hlt, e1]) (awTys_get (by decide)) (vp_no (by omega)) hd (fun tx hx9 => vm_note vmW3 hd9 hw k C hE hH hL hst hS (by omega) (by omega) (by rw [hx9]; exact index_text_modelled _ _) (by rw [hx9]; exact index_text_bytes _ (by omega)))
theorem aw_sastoreZ {Z : aZ} {M : aMD} {d kc ks pc : Nat} {L : List (Option aV)} {st : List aV} {sz : Int} {im : Int → aIm} {ct : Int → Int → Int} {a j x N : Int} (hd : decode M.2.1 pc = .ok (.sastore, 1)) (ha : aar sz im a 1 N) (hN : N < 1000) (h0 : ¬ (0 ≤ j ∧ j < N)) (hd9 : 161 ≤ d) (hw : stW st ≤ 8) (k : AX Z M d kc ks pc L 3 (-1000) (sz, im, ct)) : AW Z M d (kc + 3) (ks + 222) pc L (vI x :: vI j :: vR a :: st) (sz, im, ct) := by
  intro p l e R s m args below meth c0 D dA sA A ad0 sz0 mc ms C ad H locs cells slots ls rst hE hH hL hst hS hk1 hk2
  obtain ⟨hx, hb, hml, hown, hts, hret, hlk, hnm, htab, hR, hV, hA⟩ := id C
  obtain ⟨_, _, rfl, ⟨rx, rfl, hrx⟩, _, _, rfl, ⟨ri, rfl, hri⟩, _, rs, rfl, h1, hst⟩ := hst
  subst hri
  obtain ⟨n, E, hn, h2, hP, hD⟩ := id hH
  try dsimp only at h2
  obtain ⟨o0, o1, o2, o3⟩ := ha
  obtain ⟨b, rfl⟩ := Int.nat_of o0
  have hlt : b < n := by have h9 : sz = (n : Int) := hn; omega
  obtain rfl := vokR h1
  obtain ⟨hsm, g, e1, e2⟩ := (h2 b hlt).sm o2 (by decide)
  refine vx_sastZ hx hb hV.2.1 hP b 1 (by rw [wsl_get hlt, e1]) (awTys_get (by decide)) (vp_no (by omega)) hd (fun tx hx9 => vm_note vmW3 hd9 hw k C hE hH hL hst hS (by omega) (by omega) (by rw [hx9]; exact index_text_modelled _ _) (by rw [hx9]; exact index_text_bytes _ (by omega)))
theorem aw_iastoreZ {Z : aZ} {M : aMD} {d kc ks pc : Nat} {L : List (Option aV)} {st : List aV} {sz : Int} {im : Int → aIm} {ct : Int → Int → Int} {a j x N : Int} (hd : decode M.2.1 pc = .ok (.iastore, 1)) (ha : aar sz im a 2 N) (hN : N < 1000) (h0 : ¬ (0 ≤ j ∧ j < N)) (hd9 : 161 ≤ d) (hw : stW st ≤ 8) (k : AX Z M d kc ks pc L 3 (-1000) (sz, im, ct)) : AW Z M d (kc + 3) (ks + 222) pc L (vI x :: vI j :: vR a :: st) (sz, im, ct) := by
  intro p l e R s m args below meth c0 D dA sA A ad0 sz0 mc ms C ad H locs cells slots ls rst hE hH hL hst hS hk1 hk2
  obtain ⟨hx, hb, hml, hown, hts, hret, hlk, hnm, htab, hR, hV, hA⟩ := id C
  obtain ⟨_, _, rfl, ⟨rx, rfl, hrx⟩, _, _, rfl, ⟨ri, rfl, hri⟩, _, rs, rfl, h1, hst⟩ := hst
  subst hri
  obtain ⟨n, E, hn, h2, hP, hD⟩ := id hH
  try dsimp only at h2
  obtain ⟨o0, o1, o2, o3⟩ := ha
  obtain ⟨b, rfl⟩ := Int.nat_of o0
  have hlt : b < n := by have h9 : sz = (n : Int) := hn; omega
  obtain rfl := vokR h1
  obtain ⟨hsm, g, e1, e2⟩ := (h2 b hlt).sm o2 (by decide)
  refine vx_iastZ hx hb hV.2.1 hP b 2 (by rw [wsl_get hlt, e1]) (awTys_get (by decide)) (vp_no (by omega)) hd (fun tx hx9 => vm_note vmW3 hd9 hw k C hE hH hL hst hS (by omega) (by omega) (by rw [hx9]; exact index_text_modelled _ _) (by rw [hx9]; exact index_text_bytes _ (by omega)))
theorem aw_lastoreZ {Z : aZ} {M : aMD} {d kc ks pc : Nat} {L : List (Option aV)} {st : List aV} {sz : Int} {im : Int → aIm} {ct : Int → Int → Int} {a j x N : Int} (hd : decode M.2.1 pc = .ok (.lastore, 1)) (ha : aar sz im a 3 N) (hN : N < 1000) (h0 : ¬ (0 ≤ j ∧ j < N)) (hd9 : 161 ≤ d) (hw : stW st ≤ 8) (k : AX Z M d kc ks pc L 3 (-1000) (sz, im, ct)) : AW Z M d (kc + 3) (ks + 222) pc L (vL x :: vI j :: vR a :: st) (sz, im, ct) := by
  intro p l e R s m args below meth c0 D dA sA A ad0 sz0 mc ms C ad H locs cells slots ls rst hE hH hL hst hS hk1 hk2
  obtain ⟨hx, hb, hml, hown, hts, hret, hlk, hnm, htab, hR, hV, hA⟩ := id C
  obtain ⟨_, _, rfl, ⟨rx, rfl, hrx⟩, _, _, rfl, ⟨ri, rfl, hri⟩, _, rs, rfl, h1, hst⟩ := hst
  subst hri
  obtain ⟨n, E, hn, h2, hP, hD⟩ := id hH
  try dsimp only at h2
  obtain ⟨o0, o1, o2, o3⟩ := ha
  obtain ⟨b, rfl⟩ := Int.nat_of o0
  have hlt : b < n := by have h9 : sz = (n : Int) := hn; omega
  obtain rfl := vokR h1
  obtain ⟨hsm, g, e1, e2⟩ := (h2 b hlt).lg o2
  refine vx_lastZ hx hb hV.2.1 hP b 3 (by rw [wsl_get hlt, e1]) (awTys_get (by decide)) (vp_no (by omega)) hd (fun tx hx9 => vm_note vmW3 hd9 hw k C hE hH hL hst hS (by omega) (by omega) (by rw [hx9]; exact index_text_modelled _ _) (by rw [hx9]; exact index_text_bytes _ (by omega)))
