set_option maxRecDepth 100000
/-- what is said of a method once: no handlers; its code is a word; its class is initialized -/
def MOK (N : aMD) (n : Nat) : Prop := N.2.2.2.2 = [] ∧ Cond.code N.1 N.2.1 N.2.2.1 N.2.2.2.1 ∈ lw_all ∧ Cond.initialized N.1.cls ∈ lw_all ∧ (N.1.cls ≠ "java/lang/invoke/MethodHandle" ∧ N.1.cls ≠ "java/lang/invoke/VarHandle" ∧ (parseMethodDescriptor N.1.desc).map (fun d => d.parameters.length) = some n) ∧ plainName N.1.cls = true ∧ N.2.2.1 ≤ 40
/-- .. of one with handlers -/
def MOKW (N : aMD) (n : Nat) : Prop := N.2.2.2.2 ≠ [] ∧ Cond.codeWith N.1 N.2.1 N.2.2.1 N.2.2.2.1 N.2.2.2.2 ∈ lw_all ∧ Cond.initialized N.1.cls ∈ lw_all ∧ (N.1.cls ≠ "java/lang/invoke/MethodHandle" ∧ N.1.cls ≠ "java/lang/invoke/VarHandle" ∧ (parseMethodDescriptor N.1.desc).map (fun d => d.parameters.length) = some n) ∧ plainName N.1.cls = true ∧ N.2.2.1 ≤ 40
theorem awWs_0 {N : aMD} (h : N.2.2.2.2 = []) : awWs N = ws_ N.1 N.2.1 N.2.2.1 N.2.2.2.1 := if_pos h
theorem awWs_1 {N : aMD} (h : N.2.2.2.2 ≠ []) : awWs N = wsW_ N.1 N.2.1 N.2.2.1 N.2.2.2.1 N.2.2.2.2 := if_neg h
/-- where a call goes on -/
def aK (Z : aZ) (M : aMD) (d kc ks pc : Nat) (L : List (Option aV)) (st : List aV) : aPost := fun r G => match r with
  | .inl v => AW Z M d kc ks (pc + 3) L (v.toList ++ st) G
  | .inr (E, x) => AX Z M d kc ks pc L E x G
abbrev aPc (l : Launch) (D : va_G) (dA : Nat → ClassId) (sA : Nat → Nat) (ad : Int → Nat) (G : aG) (hs : Nat) (rargs : List Value) : Array Value → State → Prop := va_Pc rargs (fun U => U.heap.size = hs ∧ AENV l D dA sA (aFR G.1 ad hs) U U.heap ∧ HR D dA sA (aFR G.1 ad hs) ad G U.heap)
theorem aPc_blind {l : Launch} {D : va_G} {dA : Nat → ClassId} {sA : Nat → Nat} {ad : Int → Nat} {G : aG} {hs : Nat} {rargs : List Value} : FrameBlind (aPc l D dA sA ad G hs rargs) := by
  intro a U g mk q
  obtain ⟨q0, q1, q2, q3⟩ := q
  exact ⟨q0, q1, AENV.same (s := U) rfl q2, q3⟩
section ACALL
variable {p : Program} {l : Launch} {e : Env} {R : Room} {s : State} {m : MethodId} {args : Array Value} {below : List Frame} {meth : Method} {c : Code} {D : va_G} {dA : Nat → ClassId} {sA : Nat → Nat} {A : Nat → Prop} {ad0 : Int → Nat} {sz0 : Int} {mc ms : Nat}
theorem aFR_in {ad : Int → Nat} {G : aG} {H : Heap} {locs : List Loc} (hA : ∀ q, s.heap.size ≤ q → A q) (hH : HR D dA sA A ad G H) (hS : va_S A s.heap H locs) : ∀ q, aFR G.1 ad H.size q → A q := by
  intro q hq
  rcases hq with ⟨a, h0, h1, rfl⟩ | hq
  · exact hH.inA h0 h1
  · exact hA q (Nat.le_trans hS.1 hq)
theorem aPc_at {M : aMD} {d : Nat} {ad : Int → Nat} {G : aG} {H : Heap} {locs : List Loc} {rargs : List Value} (C : ACX M d p l e R s m args meth c D dA sA A mc ms) (hH : HR D dA sA A ad G H) (hS : va_S A s.heap H locs) : ∀ U : State, U.heap = H → s.WarmedH U.vm → aPc l D dA sA ad G H.size rargs rargs.toArray U := by
  intro U hU hW
  obtain ⟨hx, hb, hml, hown, hts, hret, hlk, hnm, htab, hR, hV, hA⟩ := id C
  refine ⟨rfl, by rw [hU], ?_, by rw [hU]; exact hH.self⟩
  rw [hU]
  exact AENV.warm hW hS.2.1 (aFR_in hA hH hS) hV
/-- behind a call -/
theorem aw_after {Z : aZ} {M : aMD} {d kc ks kc' ks' pc : Nat} {L : List (Option aV)} {st : List aV} {G : aG} {ad : Int → Nat} {H : Heap} {locs : List Loc} {cells slots : Nat} {ls : Array Slot} {rst0 rest : List Value} {a9 : Array Value}
    (C : ACX M d p l e R s m args meth c D dA sA A mc ms) (hE : AEX ad0 sz0 ad G.1) (hH : HR D dA sA A ad G H) (hL : lrel sA ad G.1 L ls M.2.2.1) (hst : srel sA ad G.1 st rest) (hS : va_S A s.heap H locs) (hk1 : cells + (kc' + kc) ≤ mc) (hk2 : slots + (ks' + ks) ≤ ms)
    (hr : vx_Run p l e R s m args below meth c H locs cells slots kc' ks' (F0 m pc ls rst0) rest (aQC D dA sA (aFR G.1 ad H.size) ad G.1 (aK Z M d kc ks pc L st) a9) (aXC D dA sA (aFR G.1 ad H.size) ad G.1 (aK Z M d kc ks pc L st)) (aFR G.1 ad H.size)) :
    W p l e R s m args below meth c H locs cells slots (Z l below args s D dA sA A ad0 sz0 mc ms) (F0 m pc ls rst0) := by
  obtain ⟨hx, hb, hml, hown, hts, hret, hlk, hnm, htab, hR, hV, hA⟩ := id C
  have hAA := aFR_in hA hH hS
  intro T hT X
  rcases hr T hT X with ⟨v, st₀, t, T', L', h0, X', hL', e1, e2, ⟨⟨rv, r, G', ad', hv, hrv, hq, hE', hH'⟩, hF⟩, sx⟩ | ⟨q, st₀, t, T', L', E, ce, h0, X', hL', e1, e2, ⟨⟨cE, x, G', ad', rfl, hxr, hq, hE', hH'⟩, hF⟩, hce, hcv, hcl, sx⟩
  · cases hv
    obtain ⟨k1, k2, k3⟩ := vx_keep h0 e1 hS (fun q _ h => hAA q h) hAA hL' hF
    have hst' : srel sA ad' G'.1 (r.toList ++ st) (v.toList ++ rest) := by
      cases r with
      | none => cases hrv; exact hst.mono hE'
      | some w => obtain ⟨v', rfl, hv'⟩ := hrv; exact ⟨v', rest, rfl, hv', hst.mono hE'⟩
    have hq9 : AW Z M d kc ks (pc + 3) L (r.toList ++ st) G' := hq
    obtain ⟨t2, a1, b1⟩ := hq9 p l e R s m args below meth c D dA sA A ad0 sz0 mc ms C ad' T'.heap (locs ++ L') (cells + kc') (slots + ks') ls (v.toList ++ rest) (hE.trans hE') (by rw [e1]; exact hH'.weak hAA) (hL.mono hE') hst' k3 (by omega) (by omega) T' rfl X'
    exact ⟨t2, sx t2 a1, b1⟩
  · obtain ⟨k1, k2, k3⟩ := vx_keep h0 e1 hS (fun q _ h => hAA q h) hAA hL' hF
    have hq9 : AX Z M d kc ks pc L cE x G' := hq
    obtain ⟨t2, a1, b1⟩ := hq9 p l e R s m args below meth c D dA sA A ad0 sz0 mc ms C ad' T'.heap (locs ++ L') (cells + kc') (slots + ks') ls rest q ce (hE.trans hE') (by rw [e1]; exact hH'.weak hAA) (hL.mono hE') k3 (by omega) (by omega) hxr (by rw [e1]; exact hce) hcv hcl T' rfl X'
    exact ⟨t2, sx.trans a1, b1⟩
end ACALL
