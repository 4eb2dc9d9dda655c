set_option maxRecDepth 100000
/-! seasons: an act, BeeYardModel -/
/-- the world of BeeYardModel that lives -/
def MLV (c0 ct : Int → Int → Int) (q : lvS) : Prop := Fok ct ∧ ct 1 = q.1 ∧ (ct 0 29 = q.2.1 ∧ ct 0 30 = q.2.2.1 ∧ ct 12 0 = q.2.2.2.1 ∧ ct 12 1 = q.2.2.2.2.1 ∧ ct 12 2 = q.2.2.2.2.2.2) ∧ (∀ b, b ≠ 0 → b ≠ 1 → b ≠ 9 → b ≠ 11 → b ≠ 12 → ct b = c0 b) ∧ ∀ i, i ≠ 24 → i ≠ 25 → i ≠ 26 → i ≠ 27 → i ≠ 29 → i ≠ 30 → ct 0 i = c0 0 i
theorem MLV.df {c0 ct ct2 : Int → Int → Int} {q : lvS} {s2 : Int → Int} (h : MLV c0 ct q) (hF : Fok ct2) (e : ct2 1 = s2) (f : dfr ct ct2) : MLV c0 ct2 (s2, q.2) := by
  obtain ⟨h1, h2, ⟨a1, a2, a3, a4, a5⟩, h3, h4⟩ := h
  refine ⟨hF, e, ⟨?_, ?_, ?_, ?_, ?_⟩, fun b b0 b1 b9 b11 b12 => (f.1 b b0 b1 b9).trans (h3 b b0 b1 b9 b11 b12), fun i i0 i1 i2 i3 i4 i5 => (f.2 i i0 i1 i2 i3).trans (h4 i i0 i1 i2 i3 i4 i5)⟩
  · rw [f.2 29 (by decide) (by decide) (by decide) (by decide)]; exact a1
  · rw [f.2 30 (by decide) (by decide) (by decide) (by decide)]; exact a2
  · rw [f.1 12 (by decide) (by decide) (by decide)]; exact a3
  · rw [f.1 12 (by decide) (by decide) (by decide)]; exact a4
  · rw [f.1 12 (by decide) (by decide) (by decide)]; exact a5
theorem mfr.d {a b : Int → Int → Int} (h : mfr a b) : dfr a b := ⟨h.1, fun i i0 _ _ _ => h.2 i i0⟩
theorem dfr.o1 {a b : Int → Int → Int} (h : ∀ i, i ≠ 1 → b i = a i) : dfr a b := ⟨fun i _ h1 _ => h i h1, fun i _ _ _ _ => by rw [h 0 (by decide)]⟩
/-- a number of the run was written -/
theorem MLV.num {c0 ct : Int → Int → Int} {q : lvS} {i v : Int} (h : MLV c0 ct q) (hi : i = 29 ∨ i = 30) : MLV c0 (aup ct 0 i v) (q.1, if i = 29 then v else q.2.1, if i = 30 then v else q.2.2.1, q.2.2.2) := by
  obtain ⟨h1, h2, ⟨a1, a2, a3, a4, a5⟩, h3, h4⟩ := h
  refine ⟨h1.eq (aup_n (by omega)) (aup_rn (by decide)), by rw [aup_rn (by decide)]; exact h2, ⟨?_, ?_, by rw [aup_rn (by decide)]; exact a3, by rw [aup_rn (by decide)]; exact a4, by rw [aup_rn (by decide)]; exact a5⟩, fun b b0 b1 b9 b11 b12 => by rw [aup_rn b0]; exact h3 b b0 b1 b9 b11 b12, fun j j0 j1 j2 j3 j4 j5 => by rw [aup_n (by omega)]; exact h4 j j0 j1 j2 j3 j4 j5⟩
  · rcases hi with rfl | rfl
    · rw [aup_s]; rfl
    · rw [aup_n (by omega)]; exact a1
  · rcases hi with rfl | rfl
    · rw [aup_n (by omega)]; exact a2
    · rw [aup_s]; rfl
theorem MLV.ran {c0 ct : Int → Int → Int} {q : lvS} {i v : Int} (h : MLV c0 ct q) : MLV c0 (aup ct 12 i v) (q.1, q.2.1, q.2.2.1, if i = 0 then v else q.2.2.2.1, if i = 1 then v else q.2.2.2.2.1, q.2.2.2.2.2.1, if i = 2 then v else q.2.2.2.2.2.2) := by
  obtain ⟨h1, h2, ⟨a1, a2, a3, a4, a5⟩, h3, h4⟩ := h
  have r : ∀ j w, ct 12 j = w → aup ct 12 i v 12 j = if i = j then v else w := fun j w e => by
    by_cases z : i = j
    · subst z; rw [aup_s, if_pos rfl]
    · rw [aup_n (by omega), if_neg z]; exact e
  exact ⟨h1.eq (by rw [aup_rn (by decide)]) (aup_rn (by decide)), by rw [aup_rn (by decide)]; exact h2, ⟨by rw [aup_rn (by decide)]; exact a1, by rw [aup_rn (by decide)]; exact a2, r 0 _ a3, r 1 _ a4, r 2 _ a5⟩, fun b b0 b1 b9 b11 b12 => by rw [aup_rn b12]; exact h3 b b0 b1 b9 b11 b12, fun j j0 j1 j2 j3 j4 j5 => by rw [aup_rn (by decide)]; exact h4 j j0 j1 j2 j3 j4 j5⟩
theorem MLV.rou {c0 ct : Int → Int → Int} {q : lvS} {i v : Int} (h : MLV c0 ct q) : MLV c0 (aup ct 11 i v) q := by
  obtain ⟨h1, h2, ⟨a1, a2, a3, a4, a5⟩, h3, h4⟩ := h
  exact ⟨h1.eq (by rw [aup_rn (by decide)]) (aup_rn (by decide)), by rw [aup_rn (by decide)]; exact h2, ⟨by rw [aup_rn (by decide)]; exact a1, by rw [aup_rn (by decide)]; exact a2, by rw [aup_rn (by decide)]; exact a3, by rw [aup_rn (by decide)]; exact a4, by rw [aup_rn (by decide)]; exact a5⟩, fun b b0 b1 b9 b11 b12 => by rw [aup_rn b11]; exact h3 b b0 b1 b9 b11 b12, fun j j0 j1 j2 j3 j4 j5 => by rw [aup_rn (by decide)]; exact h4 j j0 j1 j2 j3 j4 j5⟩
theorem paD_s {s : Int → Int} {d : Nat} : paD (d + 1) s = upA (paF (paD d s 0).toNat (paD d s)) 3 (paD d s 3 + 1) := rfl
theorem C_m_draw {ct : Int → Int → Int} {n st : Int} {Q : aPost} (e1 : ct 0 29 = st) (hs : 0 ≤ st ∧ st < 65536) (hn : 1 ≤ n ∧ n ≤ 16) (hQ : Q (.inl (some (vI (drw st / 8 % n)))) (gM (aup ct 0 29 (drw st)))) : AMet md_X7_draw 1 0 0 [vR 0, vI n] (gM ct) Q := by
  refine AMet.go (L := [some (vR 0), some (vI n)]) mok_X7_draw (Nat.le_of_ble_eq_true rfl) rfl ?_
  have hd := drw_bd (x := st)
  refine aw_aload_n dX7_draw_0 rfl ?_
  refine gm_373 rfl dX7_draw_1 dX7_draw_2 rfl ?_
  rw [e1]
  refine aw_sipush dX7_draw_5 (by decide) ?_
  refine aw_imulr dX7_draw_8 (by omega) ?_
  refine aw_sipush dX7_draw_9 (by decide) ?_
  refine aw_iaddr dX7_draw_12 (by omega) ?_
  refine aw_ldcw (x := 65536) dX7_draw_13 q2047 (by decide) ?_
  refine aw_iremr dX7_draw_16 (by omega) (by omega) ?_
  rw [show (st * 2789 + 9973) % 65536 = drw st from rfl]
  refine p_X7_373_7 rfl dX7_draw_17 m_ob ?_
  refine gm_373 rfl dX7_draw_20 dX7_draw_21 rfl ?_
  rw [aup_s]
  refine aw_bipush dX7_draw_24 (by decide) ?_
  refine aw_idivr dX7_draw_26 (by omega) (by omega) ?_
  refine aw_iload_n dX7_draw_27 rfl ?_
  refine aw_iremr dX7_draw_28 (by omega) (by omega) ?_
  refine aw_ireturn dX7_draw_29 rfl ?_
  exact hQ
theorem L_m_ldays {c0 c9 : Int → Int → Int} {q : lvS} {Q : aPost} {r w x3 : Int} {d kc ks : Nat} {x5 : Option aV} (hd : 5 ≤ d) (hP : PI q.1) (hw : 0 ≤ w ∧ q.1 3 + w ≤ 9999) (K : ∀ ct2 : Int → Int → Int, MLV c0 ct2 (paD w.toNat q.1, q.2) → (∀ u, ct2 11 u = c9 11 u) → Q (.inl (some (vI 1))) (gM ct2)) : ∀ (n i : Nat) (ct : Int → Int → Int), (i : Int) + n = w → MLV c0 ct (paD i q.1, q.2) → (∀ u, ct 11 u = c9 11 u) → AW (mq Q) md_X7_does d kc ks 83 [some (vR 0), some (vI r), some (vI w), some (vI x3), some (vI i), x5] [] (gM ct) := by
  have h3 := hP.2.1
  intro n
  induction n with
  | zero =>
    intro i ct g1 g2 hu
    have ei : w.toNat = i := by omega
    rw [ei] at K
    refine aw_iload dX7_does_83 rfl ?_
    refine aw_iload_n dX7_does_85 rfl ?_
    refine aw_icmpge (tgt := 99) dX7_does_86 (by decide) (fun h86 => ?_) (fun h86 => ?_)
    · refine aw_iconst dX7_does_99 (by decide) ?_
      refine aw_zreturn dX7_does_100 rfl (Or.inr rfl) ?_
      exact K ct g2 hu
    · exfalso; omega
  | succ n ih =>
    intro i ct g1 g2 hu
    have hp := (hP.paD (d := i) (by omega)).pd
    have e1 : ct 1 = paD i q.1 := g2.2.1
    have e3 : ct 1 3 = q.1 3 + i := by rw [e1, paD_3]
    refine aw_iload dX7_does_83 rfl ?_
    refine aw_iload_n dX7_does_85 rfl ?_
    refine aw_icmpge (tgt := 99) dX7_does_86 (by decide) (fun h86 => ?_) (fun h86 => ?_)
    · exfalso; omega
    · refine aw_aload_n dX7_does_89 rfl ?_
      refine c_X7_312 rfl dX7_does_90 m_ob (Nat.le_of_ble_eq_true rfl) (by omega) (C_m_passes g2.1 (by rw [e1]; exact hp) (by omega) (fun ct2 hF2 e2 f2 => ?_))
      refine aK_v ?_
      refine aw_iinc4r dX7_does_93 (by decide) (by decide) rfl (by omega) ?_
      refine aw_goto (tgt := 83) dX7_does_96 (by decide) ?_
      refine ih (i + 1) ct2 (by omega) ?_ (fun u => by rw [f2.1 11 (by decide) (by decide) (by decide)]; exact hu u)
      exact g2.df hF2 (by rw [e2, e1, paD_s]) f2
theorem bloF_s {a : Int} {p : (Int → Int) × Int × Int} {k : Nat} : bloF a p (k + 1) = (brK (bloF a p k).1 k (bloN a (bloF a p k) k), drw (bloF a p k).2.1, w32 ((bloF a p k).2.2 + bloN a (bloF a p k) k)) := rfl
theorem L_m_bloom {c0 c9 : Int → Int → Int} {q : lvS} {Q : aPost} {r a x3 : Int} {d kc ks : Nat} (hd : 7 ≤ d) (ha : 1 ≤ a ∧ a ≤ 16) (hq : LQ q) (K : ∀ ct2 : Int → Int → Int, MLV c0 ct2 ((bloF a (q.1, q.2.1, q.2.2.2.2.1) (q.1 0).toNat).1, (bloF a (q.1, q.2.1, q.2.2.2.2.1) (q.1 0).toNat).2.1, q.2.2.1, q.2.2.2.1, (bloF a (q.1, q.2.1, q.2.2.2.2.1) (q.1 0).toNat).2.2, q.2.2.2.2.2.1, q.2.2.2.2.2.2) → (∀ u, ct2 11 u = c9 11 u) → Q (.inl (some (vI 1))) (gM ct2)) : ∀ (n k : Nat) (ct : Int → Int → Int) (x5 : Option aV), (k : Int) + n = q.1 0 → MLV c0 ct ((bloF a (q.1, q.2.1, q.2.2.2.2.1) k).1, (bloF a (q.1, q.2.1, q.2.2.2.2.1) k).2.1, q.2.2.1, q.2.2.2.1, (bloF a (q.1, q.2.1, q.2.2.2.2.1) k).2.2, q.2.2.2.2.2.1, q.2.2.2.2.2.2) → (∀ u, ct 11 u = c9 11 u) → AW (mq Q) md_X7_does d kc ks 202 [some (vR 0), some (vI r), some (vI a), some (vI x3), some (vI k), x5] [] (gM ct) := by
  obtain ⟨hP, hs, hm, hb, -⟩ := hq
  have b0 := hP.1
  have bok := fun k hk => bloF_ok (a := a) (q := (q.1, q.2.1, q.2.2.2.2.1)) hP hs hb ha (k := k) hk
  intro n
  induction n with
  | zero =>
    intro k ct x5 h1 hX hu
    have ek : (q.1 0).toNat = k := by omega
    have e0 : (bloF a (q.1, q.2.1, q.2.2.2.2.1) k).1 0 = q.1 0 := (bok k (by show (k : Int) ≤ q.1 0; omega)).2.1.1 0 (Or.inl rfl)
    have e1 : ct 1 0 = q.1 0 := by rw [hX.2.1]; exact e0
    rw [ek] at K
    refine aw_iload dX7_does_202 rfl ?_
    refine gm_7 rfl dX7_does_204 dX7_does_205 rfl ?_
    refine aw_iconst dX7_does_208 (by decide) ?_
    refine aw_iaload dX7_does_209 m_a1 (by omega) (by omega) ?_
    rw [e1]
    refine aw_icmpge (tgt := 262) dX7_does_210 (by decide) (fun h210 => ?_) (fun h210 => ?_)
    · refine aw_iconst dX7_does_262 (by decide) ?_
      refine aw_zreturn dX7_does_263 rfl (Or.inr rfl) ?_
      exact K ct hX hu
    · exfalso; omega
  | succ n ih =>
    intro k ct x5 h1 hX hu
    obtain ⟨g1, g2, g3, g4⟩ := bok k (by show (k : Int) ≤ q.1 0; omega)
    have e0 : (bloF a (q.1, q.2.1, q.2.2.2.2.1) k).1 0 = q.1 0 := g2.1 0 (Or.inl rfl)
    have ec : ct 1 = (bloF a (q.1, q.2.1, q.2.2.2.2.1) k).1 := hX.2.1
    have e1 : ct 1 0 = q.1 0 := by rw [ec]; exact e0
    have n9 := bloN_bd (p := bloF a (q.1, q.2.1, q.2.2.2.2.1) k) (k := k) (a := a) g1 (by omega) ha
    have bee := g1.bee (k := k) (by omega) (by omega)
    have gk := g1.2.2.1 k (by omega) (by omega)
    have hX1 := hX.num (i := 29) (v := drw (bloF a (q.1, q.2.1, q.2.2.2.2.1) k).2.1) (Or.inl rfl)
    refine aw_iload dX7_does_202 rfl ?_
    refine gm_7 rfl dX7_does_204 dX7_does_205 rfl ?_
    refine aw_iconst dX7_does_208 (by decide) ?_
    refine aw_iaload dX7_does_209 m_a1 (by omega) (by omega) ?_
    rw [e1]
    refine aw_icmpge (tgt := 262) dX7_does_210 (by decide) (fun h210 => ?_) (fun h210 => ?_)
    · exfalso; omega
    · refine aw_aload_n dX7_does_213 rfl ?_
      refine aw_iload_n dX7_does_214 rfl ?_
      refine c_X7_377 rfl dX7_does_215 m_ob (Nat.le_of_ble_eq_true rfl) (by omega) (C_m_draw (st := (bloF a (q.1, q.2.1, q.2.2.2.2.1) k).2.1) hX.2.2.1.1 g3 ha ?_)
      refine aK_i ?_
      refine gm_7 rfl dX7_does_218 dX7_does_219 rfl ?_
      refine aw_iload dX7_does_222 rfl ?_
      refine c_X7_217 rfl dX7_does_224  (Nat.le_of_ble_eq_true rfl) (by omega) (C_m_hiveRow (by omega) ?_)
      refine aK_i ?_
      refine aw_iconst dX7_does_227 (by decide) ?_
      refine aw_iaddr dX7_does_228 (by omega) ?_
      refine aw_iaload dX7_does_229 m_a1 (by omega) (by omega) ?_
      rw [aup_rn (by decide), ec]
      refine aw_bipush dX7_does_230 (by decide) ?_
      refine aw_idivr dX7_does_232 (by omega) (by omega) ?_
      refine aw_imulr dX7_does_233 (by have w := n9; unfold bloN at w; omega) ?_
      rw [show drw (bloF a (q.1, q.2.1, q.2.2.2.2.1) k).2.1 / 8 % a * ((bloF a (q.1, q.2.1, q.2.2.2.2.1) k).1 (64 + 198 * (k : Int) + 1) / 20) = bloN a (bloF a (q.1, q.2.1, q.2.2.2.2.1) k) k from rfl]
      refine aw_istore5 dX7_does_234 (by decide) rfl ?_
      refine aw_aload_n dX7_does_236 rfl ?_
      refine aw_iload dX7_does_237 rfl ?_
      refine aw_iload dX7_does_239 rfl ?_
      refine c_X7_317 rfl dX7_does_241 m_ob (Nat.le_of_ble_eq_true rfl) (by omega) (C_m_brings hX1.1 (by omega) (by rw [aup_rn (by decide), ec]; exact gk.1) (by rw [aup_rn (by decide), ec]; exact gk.2.1) (by omega) (fun ct3 hF3 e3 f3 => ?_))
      rw [aup_rn (by decide), ec] at e3
      have hX3 := (hX1.df hF3 e3 f3.d).ran (i := 1) (v := w32 ((bloF a (q.1, q.2.1, q.2.2.2.2.1) k).2.2 + bloN a (bloF a (q.1, q.2.1, q.2.2.2.2.1) k) k))
      have e12 : ct3 12 1 = (bloF a (q.1, q.2.1, q.2.2.2.2.1) k).2.2 := by rw [f3.1 12 (by decide) (by decide) (by decide), aup_rn (by decide)]; exact hX.2.2.1.2.2.2.1
      refine aK_i ?_
      refine aw_pop dX7_does_244 rfl ?_
      refine gm_56 rfl dX7_does_245 dX7_does_246 rfl ?_
      refine aw_iconst dX7_does_249 (by decide) ?_
      refine aw_dup2 dX7_does_250 rfl rfl ?_
      refine aw_iaload dX7_does_251 m_a12 (by omega) (by omega) ?_
      rw [e12]
      refine aw_iload dX7_does_252 rfl ?_
      refine aw_iadd dX7_does_254 ?_
      refine aw_iastore dX7_does_255 m_a12 (by omega) (by omega) ?_
      refine aw_iinc4r dX7_does_256 (by decide) (by decide) rfl (by omega) ?_
      refine aw_goto (tgt := 202) dX7_does_259 (by decide) ?_
      exact ih (k + 1) _ _ (by omega) hX3 (fun u => by rw [aup_rn (by decide), f3.1 11 (by decide) (by decide) (by decide), aup_rn (by decide)]; exact hu u)
