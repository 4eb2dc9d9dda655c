set_option maxRecDepth 100000
/-! operations, 27: odds -/
noncomputable def oddF (s : Int → Int) (a b sd : Int) : Nat → Int
  | 0 => 0
  | k + 1 => oddF s a b sd k + (if b ≤ hoK (lvR s (sd + k)).1 a then 1 else 0)
theorem oddF_bd {s : Int → Int} {a b sd : Int} : ∀ {k : Nat}, 0 ≤ oddF s a b sd k ∧ oddF s a b sd k ≤ k
  | 0 => by simp [oddF]
  | k + 1 => by
    have := oddF_bd (s := s) (a := a) (b := b) (sd := sd) (k := k)
    simp only [oddF]
    split <;> omega
theorem SE.blk {own : Int → Int} {sz : Int} {im : Int → aIm} {ct : Int → Int → Int} {s : Int → Int} {l : Int} (H : SE own sz im ct s l) (hl : 0 ≤ l) : BLK own sz im ct s 4 l 0 (s 10) ∧ aob sz im l 10 := by
  rcases H with z | ⟨z1, z2, z3, z4, cap, p, z5⟩
  · omega
  · exact ⟨⟨Or.inl z1, z2, Int.le_refl _, z4, cap, p, z5⟩, z1⟩
theorem L_x_od108 {own : Int → Int} {sz : Int} {im : Int → aIm} {ct : Int → Int → Int} {a b sd w n k dd : Int} {s N : Int → Int} {Q : aPost} {d kc ks : Nat} (hd : 28 ≤ d) (hR : RT own sz im ct) (HY4 : YR own 4 sz im ct 20 s dd N) (edd : dd = s 3) (HL : LR own sz im ct (ct 20 0) s N) (HS : SE own sz im ct s (ct 9 1)) (hl : 0 ≤ ct 9 1) (hP : PI s) (hs : 0 ≤ sd + k ∧ sd + k < 65536) (hk : 0 ≤ k ∧ k ≤ 10) (hn : 0 ≤ n ∧ n ≤ 100) (ha : 0 ≤ a ∧ a < s 0)
    (K : ∀ (own2 : Int → Int) (im2 : Int → aIm) (ct2 : Int → Int → Int), TG own own2 sz (sz + 1) im im2 ct ct2 (tgY 4) → (∃ s dd N, YR own2 4 (sz + 1) im2 ct2 20 s dd N) → AW (mq Q) md_X0_odds d kc ks 90 [some (vR 0), some (vI a), some (vI b), some (vI sd), some (vI w), some (vI (n + (if b ≤ hoK (lvR s (sd + k)).1 a then 1 else 0))), some (vI (k + 1))] [] (sz + 1, im2, ct2)) : AW (mq Q) md_X0_odds d (kc + 1) (ks + 7) 108 [some (vR 0), some (vI a), some (vI b), some (vI sd), some (vI w), some (vI n), some (vI k)] [] (sz, im, ct) := by
  have hsz0 : 30 ≤ sz := by have := hR.a29.2.1; omega
  subst edd
  refine aw_aload_n dX0_odds_108 rfl ?_
  refine g_X0_55_0 rfl dX0_odds_109 hR.o0 ?_
  rw [hR.e9]
  refine g_X0_218_4 rfl dX0_odds_112 hR.o9 ?_
  refine aw_new (c9 := 13) (q := (RX15, TX15, 7)) (N9 := 7) dX0_odds_115 rfl q1317 q1318 q144 rfl ?_
  refine aw_dup dX0_odds_118 rfl ?_
  refine aw_aload_n dX0_odds_119 rfl ?_
  refine g_X0_66_0 rfl dX0_odds_120 (aob_new hR.o0) ?_
  rw [upA_n (by omega), hR.e20]
  refine aw_iload_n dX0_odds_123 rfl ?_
  refine aw_iload dX0_odds_124 rfl ?_
  refine aw_iaddr dX0_odds_126 (by omega) ?_
  refine c_X0_425 rfl dX0_odds_127 (by omega) (Nat.le_of_ble_eq_true rfl) (by omega) (C_x_livinit (aob_at (by omega)) ?_)
  refine aK_v ?_
  obtain ⟨im1, him⟩ : ∃ f, f = imf (upA im sz (13, 0, adf 13)) sz 0 20 := ⟨_, rfl⟩
  obtain ⟨ct1, hct⟩ : ∃ f, f = aup (upA ct sz (adf 13)) sz 1 (sd + k) := ⟨_, rfl⟩
  rw [← him, ← hct]
  have zi : ∀ x, x < sz → im1 x = im x := fun x hx => by rw [him, imf_n (by omega), upA_n (by omega)]
  have zc : ∀ x, x < sz → ct1 x = ct x := fun x hx => by rw [hct, aup_rn (by omega), upA_n (by omega)]
  have zo : ∀ x, x < sz → (fun x => if x < sz then own x else -4) x = own x := fun x hx => if_pos hx
  have zl : (fun x => if x < sz then own x else -4) sz = -4 := if_neg (by omega)
  have TX0 : TG own (fun x => if x < sz then own x else -4) sz (sz + 1) im im1 ct ct1 (fun _ => False) := ⟨by omega, zi, fun x hx _ => zc x hx, fun x hx _ => zo x hx⟩
  have hR1 : RT (fun x => if x < sz then own x else -4) (sz + 1) im1 ct1 := RT.tg TX0 (fun x hx h => (zo x hx).trans h) (fun t _ _ => by rw [zc 1 (by omega)]) hR
  have HY1 := YR.tg TX0 (fun t t0 t1 z => z) HY4
  have HL1 := LR.tg TX0 (fun z => z) HL
  have HS1 := SE.tg TX0 (fun z => z) HS
  have n20 : (20 : Int) < sz := by omega
  have e20 : ct1 20 0 = ct 20 0 := by rw [zc 20 n20]
  have e91 : ct1 9 1 = ct 9 1 := by rw [zc 9 (by omega)]
  have hq0 := lvQ0 (sd := sd + k) hP hs
  have hX0 : XL (fun x => if x < sz then own x else -4) (fun x => if x < sz then own x else -4) (sz + 1) im1 ct1 ct1 4 20 (ct 20 0) sz s N (s, sd + k, 0, 0, 0, 0, 0) := by
    refine ⟨⟨by decide, zl, HL1, sK.rf⟩, ⟨fun _ _ => rfl, fun _ z => z⟩, HY1, fun _ _ _ _ => rfl, e20, ⟨⟨⟨by omega, by omega, by rw [him, imf_k.1, upA_s]⟩, by rw [him, imf_s, if_pos rfl]⟩, ?_, ?_, ?_, ?_, ?_, ?_⟩, hq0⟩
    · rw [hct, aup_s]
    · rw [hct, aup_n (by omega), upA_s]; rfl
    · rw [hct, aup_n (by omega), upA_s]; rfl
    · rw [hct, aup_n (by omega), upA_s]; rfl
    · rw [hct, aup_n (by omega), upA_s]; rfl
    · rw [hct, aup_n (by omega), upA_s]; rfl
  obtain ⟨hB, hC⟩ := HS1.blk hl
  refine c_all_0 rfl dX0_odds_130 hC (Nat.le_of_ble_eq_true rfl) (by omega) (C_x_all (fun hs hx k => C_x_go 4 hs hx k) hB hX0 (fun own2 ct2 hX2 => ?_))
  refine aK_v ?_
  rw [show seqF (stepF s 4) s 60 0 (s 10) (s, sd + k, 0, 0, 0, 0, 0) = lvR s (sd + k) from rfl] at hX2
  have hI := lvR_in hB hP hs
  have hY2 := hX2.2.2.1
  have e00 := hI.2.1 0 (Or.inl rfl)
  have Yk := hY2.2.2.2.2.2.2.2 a ha.1 (by omega)
  have gk := hI.1.1.2.2.1 a ha.1 (by omega)
  have b0 := hP.1
  have TK : TG own own2 sz (sz + 1) im im1 ct ct2 (tgY 4) := ⟨by omega, zi, fun x hx hf => funext fun j => by rw [hX2.2.2.2.1 x j (by rw [zo x hx]; exact hf) (by omega), zc x hx], fun x hx hf => by rw [hX2.2.1.1 x (by rw [zo x hx]; exact hf), zo x hx]⟩
  have KK := K own2 im1 ct2 TK ⟨_, _, _, hY2⟩
  refine aw_iload dX0_odds_133 rfl ?_
  refine aw_aload_n dX0_odds_135 rfl ?_
  refine g_X0_66_0 rfl dX0_odds_136 hR1.o0 ?_
  rw [hR1.e20]
  refine g_X0_150_5 rfl dX0_odds_139 hY2.1 ?_
  refine aw_iload_n dX0_odds_142 rfl ?_
  refine aw_aaload dX0_odds_143 hY2.2.2.1 (by decide) (by omega) (by omega) ?_
  refine c_X0_267 rfl dX0_odds_144 Yk.1.1 (Nat.le_of_ble_eq_true rfl) (by omega) (C_x_honey Yk.1 Yk.2.1 gk.2.1 ?_)
  refine aK_i ?_
  refine aw_iload_n dX0_odds_147 rfl ?_
  refine aw_icmplt (tgt := 155) dX0_odds_148 (by decide) (fun h148 => ?_) (fun h148 => ?_)
  · rw [if_neg (show ¬ b ≤ hoK (lvR s (sd + k)).1 a from by unfold hoK; omega)] at KK
    refine aw_iconst dX0_odds_155 (by decide) ?_
    refine aw_iaddr dX0_odds_156 (by omega) ?_
    refine aw_istore5 dX0_odds_157 (by decide) rfl ?_
    refine aw_iinc6r dX0_odds_159 (by decide) (by decide) rfl (by omega) ?_
    refine aw_goto (tgt := 90) dX0_odds_162 (by decide) ?_
    exact KK
  · rw [if_pos (show b ≤ hoK (lvR s (sd + k)).1 a from by unfold hoK; omega)] at KK
    refine aw_iconst dX0_odds_151 (by decide) ?_
    refine aw_goto (tgt := 156) dX0_odds_152 (by decide) ?_
    refine aw_iaddr dX0_odds_156 (by omega) ?_
    refine aw_istore5 dX0_odds_157 (by decide) rfl ?_
    refine aw_iinc6r dX0_odds_159 (by decide) (by decide) rfl (by omega) ?_
    refine aw_goto (tgt := 90) dX0_odds_162 (by decide) ?_
    exact KK
theorem L_x_odds {own : Int → Int} {sz : Int} {im : Int → aIm} {ct : Int → Int → Int} {a b sd w : Int} {s N : Int → Int} {Q : aPost} {d kc ks : Nat} (hd : 28 ≤ d) (hR : RT own sz im ct) (HY : YR own 0 sz im ct 10 s (s 3) N) (HL : LR own sz im ct (ct 10 0) s N) (HS : SE own sz im ct s (ct 9 1)) (hl : 0 ≤ ct 9 1) (hP : PI s) (hs : 0 ≤ sd ∧ sd + w ≤ 10000) (hw : 1 ≤ w ∧ w ≤ 10) (ha : 0 ≤ a ∧ a < s 0)
    (K : ∀ (own2 : Int → Int) (sz2 : Int) (im2 : Int → aIm) (ct2 : Int → Int → Int), TG own own2 sz sz2 im im2 ct ct2 (tgY 4) → (∃ s dd N, YR own2 4 sz2 im2 ct2 20 s dd N) → AW (mq Q) md_X0_odds d kc ks 165 [some (vR 0), some (vI a), some (vI b), some (vI sd), some (vI w), some (vI (oddF s a b sd w.toNat)), some (vI w)] [] (sz2, im2, ct2)) : ∀ (r : Nat) (k : Int) (own1 : Int → Int) (sz1 : Int) (im1 : Int → aIm) (ct1 : Int → Int → Int), k + r = w → 0 ≤ k → TG own own1 sz sz1 im im1 ct ct1 (tgY 4) → (∃ s dd N, YR own1 4 sz1 im1 ct1 20 s dd N) → AW (mq Q) md_X0_odds d (61 * r + kc) (915 * r + ks) 90 [some (vR 0), some (vI a), some (vI b), some (vI sd), some (vI w), some (vI (oddF s a b sd k.toNat)), some (vI k)] [] (sz1, im1, ct1) := by
  intro r
  induction r with
  | zero =>
    intro k own1 sz1 im1 ct1 h1 h2 T hA
    have ek : k = w := by omega
    subst ek
    refine AW.widen (kc' := kc) (ks' := ks) (by omega) (by omega) ?_
    refine aw_iload dX0_odds_90 rfl ?_
    refine aw_iload dX0_odds_92 rfl ?_
    refine aw_icmpge (tgt := 165) dX0_odds_94 (by decide) (fun h94 => ?_) (fun h94 => ?_)
    · exact K own1 sz1 im1 ct1 T hA
    · exfalso; omega
  | succ r ih =>
    intro k own1 sz1 im1 ct1 h1 h2 T hA
    obtain ⟨s4, dd4, N4, HA⟩ := hA
    have hm2 : ∀ t, t < 0 → ¬ tgY 4 t := fun t ht => tgY_m (by decide) ht
    have hR1 : RT own1 sz1 im1 ct1 := RT.tg T (fun x hx h => by rw [T.2.2.2 x hx (by rw [h]; exact hm2 _ (by decide)), h]) (fun t _ _ => by rw [T.2.2.1 1 hR.2.2.1.1.2.1 (by rw [hR.2.2.1.2.1]; exact hm2 _ (by decide))]) hR
    have HY1 := YR.tg T (fun t t0 t1 z => by have z1 := z.1; omega) HY
    refine aw_iload dX0_odds_90 rfl ?_
    refine aw_iload dX0_odds_92 rfl ?_
    refine aw_icmpge (tgt := 165) dX0_odds_94 (by decide) (fun h94 => ?_) (fun h94 => ?_)
    · exfalso; omega
    · refine aw_aload_n dX0_odds_97 rfl ?_
      refine g_X0_66_0 rfl dX0_odds_98 hR1.o0 ?_
      rw [hR1.e20]
      refine aw_aload_n dX0_odds_101 rfl ?_
      refine c_X0_158 rfl dX0_odds_102 hR1.o0 (Nat.le_of_ble_eq_true rfl) (by omega) (C_x_yard2 hR1 ?_)
      refine aK_i ?_
      refine c_X0_215a (kc1 := 60) (ks1 := 908) (kc2 := 61 * r + 1 + kc) (ks2 := 915 * r + 7 + ks) (by omega) (by omega) rfl dX0_odds_105 HA.1 (Nat.le_of_ble_eq_true rfl) (by omega) (C_x_ybe HA HY1 (by decide) (fun own2 sz2 im2 ct2 T2 ho hnew hsz HY2 l2 => ?_))
      refine aK_v ?_
      have T3 := T.trans T2
      have hR2 : RT own2 sz2 im2 ct2 := RT.tg T3 (fun x hx h => by rw [T3.2.2.2 x hx (by rw [h]; exact hm2 _ (by decide)), h]) (fun t _ _ => by rw [T3.2.2.1 1 hR.2.2.1.1.2.1 (by rw [hR.2.2.1.2.1]; exact hm2 _ (by decide))]) hR
      have l10 : ct2 20 0 = ct 10 0 := by rw [l2, T.2.2.1 10 HY.1.2.1 (by rw [HY.2.1]; exact fun z => by have z1 := z.1; omega)]
      have HL2 := LR.tg T3 (hm2 _ (by decide)) HL
      rw [← l10] at HL2
      have l91 : ct2 9 1 = ct 9 1 := by rw [T3.2.2.1 9 hR.2.2.2.2.2.2.1.1.2.1 (by rw [hR.2.2.2.2.2.2.1.2.1]; exact hm2 _ (by decide))]
      have HS2 := SE.tg T3 (hm2 _ (by decide)) HS
      rw [← l91] at HS2
      have ob := oddF_bd (s := s) (a := a) (b := b) (sd := sd) (k := k.toNat)
      refine AW.widen (kc' := (61 * r + kc) + 1) (ks' := (915 * r + ks) + 7) (by omega) (by omega) ?_
      refine L_x_od108 (N := N) (dd := s 3) (by omega) hR2 HY2 rfl HL2 HS2 (by rw [l91]; exact hl) hP (by omega) (by omega) (by omega) ha (fun own3 im3 ct3 T4 hA4 => ?_)
      have ih2 := ih (k + 1) own3 (sz2 + 1) im3 ct3 (by omega) (by omega) (T3.trans T4) hA4
      rw [show (k + 1).toNat = k.toNat + 1 by omega] at ih2
      rw [show oddF s a b sd (k.toNat + 1) = oddF s a b sd k.toNat + (if b ≤ hoK (lvR s (sd + k)).1 a then 1 else 0) by simp only [oddF]; rw [show ((k.toNat : Nat) : Int) = k by omega]] at ih2
      exact ih2
