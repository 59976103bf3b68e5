/-! PURE LAWS: a day whole, many days -/
section ONEDAY
variable {Sm : zSem} {w0 w : Wd} {t0 t : Tw}
theorem isN_or {x : Int32} (h : isN x 255) {k : Nat} (hk : k < 8) : isN (x ||| one k) 255 := isN_bits (n := 8) (by omega) fun i hi h8 => by
  rw [b_or, bt_hi (n := 8) h (by omega) h8, bt_one (by omega), decide_eq_false (by omega)]
  rfl
theorem d_day (h : SD Sm w0 t0 w t) (sh : Kp) (ssc : Sc) : ∃ (w' : Wd) (ssc' : Sc) (t' : Tw), fX1_aDay Sm sh w ssc = some (w', ssc') ∧ (∀ (K : Tw → Option (Int32 × Tw)) (N g n : Nat), g < N → N < 2 ^ 31 → fX6_goes_L11 (nI N) K true (n + 1) (nI g) t = fX6_goes_L11 (nI N) K true n (nI (g + 1)) t') ∧ SD Sm w0 t0 w' t' := by
  obtain ⟨w1, s1, t1, a1, a2, a3, -⟩ := d_turn h sh ssc
  obtain ⟨c, hc, ec⟩ := a3.1.2.1 5 1 rfl
  obtain ⟨q, hq, eq⟩ := a3.1.2.1 4 7 rfl
  obtain ⟨w2, t2, l1, l2, l3⟩ : ∃ (w2 : Wd) (t2 : Tw), (∀ K10 : Wd → Option (Wd × Sc), (if sSat (tw_m t1) c (tw_m t1 10) = true then mob (fX1_allLook w1) K10 else K10 w1) = K10 w2) ∧ (∀ K17 : Tw → Option (Int32 × Tw), (if sSat (tw_m t1) c (tw_m t1 10) = true then mob (fX6_watchers t1 (tw_m t1 4)) (fun r => fX6_goes_L119 K17 r mFU (nI 0) t1) else fX6_goes_L119 K17 (nI 0) mFU (nI 0) t1) = K17 t2) ∧ SD Sm w0 t0 w2 t2 := by
    cases sSat (tw_m t1) c (tw_m t1 10)
    · refine ⟨w1, t1, ?_, ?_, a3⟩
      · intro K; rw [if_neg (by decide)]
      · intro K; rw [if_neg (by decide), x_look0 t1 a3.1.2.1]
    · obtain ⟨w2, t2, e1, e2, e3⟩ := d_look a3 (sWatch (tw_m t1) q)
      refine ⟨w2, t2, ?_, ?_, e3⟩
      · intro K
        rw [if_pos rfl]
        unfold fX1_allLook
        simp only [li0, li1, li2, li3, li4, li5, li6, li7, li8, li9, li10, li11, li12, li13, li14, li15, li16, li20, li24, li26, li30, li31, li32, li40, li41, li43, li48, li50, li52, li57, li59, li60, li62, li64, li65, li66, li67, li97, li99, li100, li122, li236, li239, li240, li255, li254, li256, li304, li400, li703, li704, li999, li1000000, li2000000000, li3344, li3648, li9999, li10000, li32767, lm1]
        rw [a3.1.1.bath, eq, c_watchers a3.1.1 a3.1.2.1 (by omega), mob_sm, e1, mob_sm]
      · intro K
        rw [if_pos rfl, eq, x_watchers t1 a3.1.2.1 (by omega), mob_sm, e2]
  obtain ⟨w3, b1, b2, b3⟩ := d_builds l3
  generalize tw_s_m t2 (qM (tw_m t2)) = t3 at b2 b3
  obtain ⟨r, w4, d1, d2, ⟨j, hj, hr⟩, d4⟩ := d_draw b3 (n := 100) (by omega) (by omega)
  generalize tw_s_m t3 (upd (tw_m t3) 15 (dS (tw_m t3 15))) = t4 at d2 d4
  have kc : fX2_isSaturday w1 (wd_kept w1) (wd_day w1) = some (sSat (tw_m t1) c (tw_m t1 10)) := by rw [a3.1.1.kept, ec, c_isSat a3.1.1 (by omega), a3.1.1.day]
  have kx : fX6_isSaturday t1 (tw_m t1 5) (tw_m t1 10) = some (sSat (tw_m t1) c (tw_m t1 10)) := by rw [ec, x_isSat _ (by omega)]
  by_cases qb : tw_m t4 9 ≤ r
  · obtain ⟨w5, f1, f2⟩ := d_ends d4
    refine ⟨w5, s1, _, ?_, ?_, f2⟩
    · unfold fX1_aDay
      rw [a1, mob_sm, kc, mob_sm, mjn_e]
      refine (l1 _).trans ?_
      simp only [li0, li1, li2, li3, li4, li5, li6, li7, li8, li9, li10, li11, li12, li13, li14, li15, li16, li20, li24, li26, li30, li31, li32, li40, li41, li43, li48, li50, li52, li57, li59, li60, li62, li64, li65, li66, li67, li97, li99, li100, li122, li236, li239, li240, li255, li254, li256, li304, li400, li703, li704, li999, li1000000, li2000000000, li3344, li3648, li9999, li10000, li32767, lm1, mjn_e, mlt_e]
      rw [b1, mob_sm, d1, mo2_sm, d4.1.1.bore, if_pos qb, f1, mob_sm]
    · intro K N g n hg hN
      simp only [fX6_goes_L11, li0, li1, li2, li3, li4, li5, li6, li7, li8, li9, li10, li11, li12, li13, li14, li15, li16, li20, li24, li26, li30, li31, li32, li40, li41, li43, li48, li50, li52, li57, li59, li60, li62, li64, li65, li66, li67, li97, li99, li100, li122, li236, li239, li240, li255, li254, li256, li304, li400, li703, li704, li999, li1000000, li2000000000, li3344, li3648, li9999, li10000, li32767, lm1, mjn_e, mlt_e, if_true]
      rw [if_neg (nI_ge hg hN), a2, kx, mob_sm]
      refine (l2 _).trans ?_
      rw [b2, mob_sm, d2, mo2_sm, if_pos qb, x_lesser, mob_sm, nI_add]
  · obtain ⟨r2, w5, g1, g2, ⟨j2, hj2, hr2⟩, g4⟩ := d_draw d4 (n := 8) (by omega) (by omega)
    generalize tw_s_m t4 (upd (tw_m t4) 15 (dS (tw_m t4 15))) = t5 at g2 g4
    subst hr2
    have g5 : SD Sm w0 t0 (wd_s_holes w5 (upd (wd_holes w5) j2 (tw_m t5 (16 + j2) ||| one ((j2 + 1) % 8)))) (tw_s_m t5 (upd (tw_m t5) (16 + j2) (tw_m t5 (16 + j2) ||| one ((j2 + 1) % 8)))) := g4.set (g4.1.1.up_holes hj2 _) rfl (by omega) (by omega) (fun n hn => by rw [rng_h j2 hj2] at hn; cases hn; exact isN_or (g4.1.2.1.holes hj2) (Nat.mod_lt _ (by omega)))
    obtain ⟨w6, f1, f2⟩ := d_ends g5
    refine ⟨w6, s1, _, ?_, ?_, f2⟩
    · unfold fX1_aDay
      rw [a1, mob_sm, kc, mob_sm, mjn_e]
      refine (l1 _).trans ?_
      simp only [li0, li1, li2, li3, li4, li5, li6, li7, li8, li9, li10, li11, li12, li13, li14, li15, li16, li20, li24, li26, li30, li31, li32, li40, li41, li43, li48, li50, li52, li57, li59, li60, li62, li64, li65, li66, li67, li97, li99, li100, li122, li236, li239, li240, li255, li254, li256, li304, li400, li703, li704, li999, li1000000, li2000000000, li3344, li3648, li9999, li10000, li32767, lm1, mjn_e, mlt_e]
      rw [b1, mob_sm, d1, mo2_sm, d4.1.1.bore, if_neg qb, g1, mo2_sm, mckN _ hj2 (by omega), mckN _ hj2 (by omega), clN (by omega), nI_add, mrm_N (by omega) (by omega) (by omega), g4.1.1.holes hj2]
      unfold one at f1
      rw [f1, mob_sm]
    · intro K N g n hg hN
      simp only [fX6_goes_L11, li0, li1, li2, li3, li4, li5, li6, li7, li8, li9, li10, li11, li12, li13, li14, li15, li16, li20, li24, li26, li30, li31, li32, li40, li41, li43, li48, li50, li52, li57, li59, li60, li62, li64, li65, li66, li67, li97, li99, li100, li122, li236, li239, li240, li255, li254, li256, li304, li400, li703, li704, li999, li1000000, li2000000000, li3344, li3648, li9999, li10000, li32767, lm1, mjn_e, mlt_e, if_true]
      rw [if_neg (nI_ge hg hN), a2, kx, mob_sm]
      refine (l2 _).trans ?_
      rw [b2, mob_sm, d2, mo2_sm, if_neg qb, g2, mo2_sm, nI_add, mckN _ (by omega) (by omega), mckN _ (by omega) (by omega), clN (by omega), nI_add, mrm_N (by omega) (by omega) (by omega), x_lesser, mob_sm, nI_add]
      rfl
theorem d_one (h : SD Sm w0 t0 w t) (sh : Kp) (ssc : Sc) : ∃ (w' : Wd) (ssc' : Sc) (t' : Tw), fX1_oneAhead Sm sh w ssc = some (w', ssc') ∧ (∀ (K : Tw → Option (Int32 × Tw)) (N g n : Nat), g < N → N < 2 ^ 31 → fX6_goes_L11 (nI N) K false (n + 1) (nI g) t = fX6_goes_L11 (nI N) K false n (nI (g + 1)) t') ∧ SD Sm w0 t0 w' t' ∧ ∀ k, 6 ≤ k → k ≤ 8 → tw_m t' k = qM (tw_m t) k := by
  obtain ⟨w1, s1, t1, a1, a2, a3, a4⟩ := d_turn h sh ssc
  obtain ⟨w3, b1, b2, b3⟩ := d_builds a3
  have hq : ∀ k, 6 ≤ k → k ≤ 8 → qM (tw_m t1) k = qM (tw_m t) k := by
    intro k h6 h8
    unfold qM qN
    rw [a4 6 (by omega), a4 7 (by omega), a4 8 (by omega)]
    by_cases q7 : k = 7
    · subst q7; rw [upd_s, upd_s]
    · rw [upd_n q7, upd_n q7]
      by_cases q8 : k = 8
      · subst q8; rw [upd_s, upd_s]
      · rw [upd_n q8, upd_n q8, a4 k (by omega)]
  have hm : ∀ k, 6 ≤ k → k ≤ 8 → tw_m (tw_s_m t1 (qM (tw_m t1))) k = qM (tw_m t) k := fun k h6 h8 => hq k h6 h8
  generalize tw_s_m t1 (qM (tw_m t1)) = t3 at b2 b3 hm
  obtain ⟨w5, f1, f2⟩ := d_ends b3
  refine ⟨w5, s1, _, ?_, ?_, f2, ?_⟩
  · unfold fX1_oneAhead
    rw [a1, mob_sm, b1, mob_sm, f1, mob_sm]
  · intro K N g n hg hN
    simp only [fX6_goes_L11, li0, li1, li2, li3, li4, li5, li6, li7, li8, li9, li10, li11, li12, li13, li14, li15, li16, li20, li24, li26, li30, li31, li32, li40, li41, li43, li48, li50, li52, li57, li59, li60, li62, li64, li65, li66, li67, li97, li99, li100, li122, li236, li239, li240, li255, li254, li256, li304, li400, li703, li704, li999, li1000000, li2000000000, li3344, li3648, li9999, li10000, li32767, lm1, mjn_e, mlt_e, Bool.false_eq_true, if_false]
    rw [if_neg (nI_ge hg hN), a2, x_look0 t1 a3.1.2.1, b2, mob_sm, x_lesser, mob_sm, nI_add]
  · intro k h6 h8
    rw [twg_m_m, upd_n (by omega)]
    exact hm k h6 h8
theorem d_tries (h : SD Sm w0 t0 w t) (sh : Kp) (ssc : Sc) {N : Nat} (hN : N ≤ 400) : ∃ (w' : Wd) (ssc' : Sc) (t' : Tw), fX1_tries_L2 (nI N) Sm sh mFU (nI 0) w ssc = some (w', ssc') ∧ (∀ K14 : Wd → Sc → Option ((String × Wd × Sc) ⊕ (Int32 × Wd × Sc)), fX1_days_L24 (nI N) K14 Sm sh mFU (nI 0) w ssc = K14 w' ssc') ∧ (∀ K : Tw → Option (Int32 × Tw), fX6_goes_L11 (nI N) K true mFU (nI 0) t = K t') ∧ SD Sm w0 t0 w' t' := by
  refine lpU (fun n i (a : Wd × Sc × Tw) => ∃ (w' : Wd) (ssc' : Sc) (t' : Tw), fX1_tries_L2 (nI N) Sm sh n (nI i) a.1 a.2.1 = some (w', ssc') ∧ (∀ K14 : Wd → Sc → Option ((String × Wd × Sc) ⊕ (Int32 × Wd × Sc)), fX1_days_L24 (nI N) K14 Sm sh n (nI i) a.1 a.2.1 = K14 w' ssc') ∧ (∀ K : Tw → Option (Int32 × Tw), fX6_goes_L11 (nI N) K true n (nI i) a.2.2 = K t') ∧ SD Sm w0 t0 w' t') (fun i a => SD Sm w0 t0 a.1 a.2.2) N ?_ ?_ (n := mFU) (by unfold mFU; omega) (w, ssc, t) h
  · rintro n ⟨w1, s1, t1⟩ hs
    refine ⟨w1, s1, t1, ?_, ?_, ?_, hs⟩
    · simp only [fX1_tries_L2]
      rw [if_pos (Int32.le_refl _)]
    · intro K
      simp only [fX1_days_L24]
      rw [if_pos (Int32.le_refl _)]
    · intro K
      simp only [fX6_goes_L11]
      rw [if_pos (Int32.le_refl _)]
  · rintro n i ⟨w1, s1, t1⟩ hi hs ih
    have hs : SD Sm w0 t0 w1 t1 := hs
    obtain ⟨w2, s2, t2, e1, e2, e3⟩ := d_day hs sh s1
    obtain ⟨w', s', t', f1, f2, f3, f4⟩ := ih (w2, s2, t2) e3
    refine ⟨w', s', t', ?_, ?_, ?_, f4⟩
    · simp only [fX1_tries_L2, li0, li1, li2, li3, li4, li5, li6, li7, li8, li9, li10, li11, li12, li13, li14, li15, li16, li20, li24, li26, li30, li31, li32, li40, li41, li43, li48, li50, li52, li57, li59, li60, li62, li64, li65, li66, li67, li97, li99, li100, li122, li236, li239, li240, li255, li254, li256, li304, li400, li703, li704, li999, li1000000, li2000000000, li3344, li3648, li9999, li10000, li32767, lm1]
      rw [if_neg (nI_ge hi (by omega)), e1, mob_sm, nI_add]
      exact f1
    · intro K
      simp only [fX1_days_L24, li0, li1, li2, li3, li4, li5, li6, li7, li8, li9, li10, li11, li12, li13, li14, li15, li16, li20, li24, li26, li30, li31, li32, li40, li41, li43, li48, li50, li52, li57, li59, li60, li62, li64, li65, li66, li67, li97, li99, li100, li122, li236, li239, li240, li255, li254, li256, li304, li400, li703, li704, li999, li1000000, li2000000000, li3344, li3648, li9999, li10000, li32767, lm1]
      rw [if_neg (nI_ge hi (by omega)), e1, mob_sm, nI_add]
      exact f2 K
    · intro K
      exact (e2 K N i n hi (by omega)).trans (f3 K)
theorem d_aheadN (h : SD Sm w0 t0 w t) (sh : Kp) (ssc : Sc) {N : Nat} (hN : N ≤ 400) : ∃ (w' : Wd) (ssc' : Sc) (t' : Tw), (∀ K6 : Wd → Sc → Option (Wd × Sc), fX1_worldAt_L14 (nI N) K6 Sm sh mFU (nI 0) w ssc = K6 w' ssc') ∧ (∀ K : Tw → Option (Int32 × Tw), fX6_goes_L11 (nI N) K false mFU (nI 0) t = K t') ∧ SD Sm w0 t0 w' t' := by
  refine lpU (fun n i (a : Wd × Sc × Tw) => ∃ (w' : Wd) (ssc' : Sc) (t' : Tw), (∀ K6 : Wd → Sc → Option (Wd × Sc), fX1_worldAt_L14 (nI N) K6 Sm sh n (nI i) a.1 a.2.1 = K6 w' ssc') ∧ (∀ K : Tw → Option (Int32 × Tw), fX6_goes_L11 (nI N) K false n (nI i) a.2.2 = K t') ∧ SD Sm w0 t0 w' t') (fun i a => SD Sm w0 t0 a.1 a.2.2) N ?_ ?_ (n := mFU) (by unfold mFU; omega) (w, ssc, t) h
  · rintro n ⟨w1, s1, t1⟩ hs
    refine ⟨w1, s1, t1, ?_, ?_, hs⟩
    · intro K
      simp only [fX1_worldAt_L14]
      rw [if_pos (Int32.le_refl _)]
    · intro K
      simp only [fX6_goes_L11]
      rw [if_pos (Int32.le_refl _)]
  · rintro n i ⟨w1, s1, t1⟩ hi hs ih
    have hs : SD Sm w0 t0 w1 t1 := hs
    obtain ⟨w2, s2, t2, e1, e2, e3, -⟩ := d_one hs sh s1
    obtain ⟨w', s', t', f2, f3, f4⟩ := ih (w2, s2, t2) e3
    refine ⟨w', s', t', ?_, ?_, f4⟩
    · intro K
      simp only [fX1_worldAt_L14, li0, li1, li2, li3, li4, li5, li6, li7, li8, li9, li10, li11, li12, li13, li14, li15, li16, li20, li24, li26, li30, li31, li32, li40, li41, li43, li48, li50, li52, li57, li59, li60, li62, li64, li65, li66, li67, li97, li99, li100, li122, li236, li239, li240, li255, li254, li256, li304, li400, li703, li704, li999, li1000000, li2000000000, li3344, li3648, li9999, li10000, li32767, lm1]
      rw [if_neg (nI_ge hi (by omega)), e1, mob_sm, nI_add]
      exact f2 K
    · intro K
      exact (e2 K N i n hi (by omega)).trans (f3 K)
theorem x_goes1 (h : SD Sm w0 t0 w t) (sh : Kp) (ssc : Sc) : ∃ (w' : Wd) (ssc' : Sc) (t' : Tw) (r : Int32), fX1_oneAhead Sm sh w ssc = some (w', ssc') ∧ fX6_goes t (nI 1) false = some (r, t') ∧ SD Sm w0 t0 w' t' := by
  obtain ⟨w', s', t', e1, e2, e3, -⟩ := d_one h sh ssc
  obtain ⟨n, hn⟩ : ∃ n, mFU = n + 2 := ⟨99998, by decide +kernel⟩
  refine ⟨w', s', t', tw_m t' 11 - tw_m t 11, e1, ?_, e3⟩
  unfold fX6_goes
  simp only [li0, li1, li2, li3, li4, li5, li6, li7, li8, li9, li10, li11, li12, li13, li14, li15, li16, li20, li24, li26, li30, li31, li32, li40, li41, li43, li48, li50, li52, li57, li59, li60, li62, li64, li65, li66, li67, li97, li99, li100, li122, li236, li239, li240, li255, li254, li256, li304, li400, li703, li704, li999, li1000000, li2000000000, li3344, li3648, li9999, li10000, li32767, lm1, mjn_e]
  rw [hn, e2 _ 1 0 (n + 1) (by omega) (by omega)]
  simp only [fX6_goes_L11]
  rw [if_pos (Int32.le_refl _)]
end ONEDAY
