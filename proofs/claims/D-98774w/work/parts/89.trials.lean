/-! PURE LAWS: spread, trials, the days that go -/
section TRIALS
variable {Sm : zSem} {us : List Wd} {sh : Kp} {w im : Wd} {rd : Rd} {t : Tw}
theorem b_spread {w1 : Wd} {t1 : Tw} (hW : RW w1 (tw_m t1)) (hI : Inv (tw_m t1)) (KC : Int32 → Int32 → Option ((String × Wd × Sc) ⊕ (Int32 × Wd × Sc))) (KX : Int32 → Int32 → Bool → Option (Int32 × Tw)) : ∃ (x y : Int32) (b : Bool), fX1_spread_L27 w1 KC mFU (nI 1000000) (nI 0) (nI 0) = KC (if b = true then x else nI 1000000) y ∧ fX6_spread_L52 t1 KX mFU (nI 99) (nI 0) false (nI 0) = KX (if b = true then x else nI 99) y b ∧ isN x 99 := by
  obtain ⟨hG, hG8⟩ := hI.G
  refine lpU (fun n i (a : Int32 × Int32 × Bool) => ∃ (x y : Int32) (b : Bool), fX1_spread_L27 w1 KC n (if a.2.2 = true then a.1 else nI 1000000) a.2.1 (nI i) = KC (if b = true then x else nI 1000000) y ∧ fX6_spread_L52 t1 KX n (if a.2.2 = true then a.1 else nI 99) a.2.1 a.2.2 (nI i) = KX (if b = true then x else nI 99) y b ∧ isN x 99) (fun i a => isN a.1 99) (gN (tw_m t1)) ?_ ?_ (n := mFU) (by unfold mFU; omega) (nI 0, nI 0, false) (isN_n (by omega))
  · rintro n ⟨x, y, b⟩ hx
    refine ⟨x, y, b, ?_, ?_, hx⟩
    · simp only [fX1_spread_L27]
      rw [hW.guests, hG, if_pos (Int32.le_refl _)]
    · simp only [fX6_spread_L52]
      rw [hG, if_pos (Int32.le_refl _)]
  · rintro n i ⟨x, y, b⟩ hi hx ih
    have hx : isN x 99 := hx
    have hi8 : i < 8 := by omega
    have hm8 : ∀ {α : Type} (K : Option α), mck (nI i) 8 K = K := fun K => mckN K hi8 (by omega)
    have hc8 : Int32.toNatClampNeg (nI i) = i := clN (by omega)
    show ∃ (x' y' : Int32) (b' : Bool), fX1_spread_L27 w1 KC (n + 1) (if b = true then x else nI 1000000) y (nI i) = KC (if b' = true then x' else nI 1000000) y' ∧ fX6_spread_L52 t1 KX (n + 1) (if b = true then x else nI 99) y b (nI i) = KX (if b' = true then x' else nI 99) y' b' ∧ isN x' 99
    simp only [fX1_spread_L27, fX6_spread_L52, li0, li1, li2, li3, li4, li5, li6, li7, li8, li9, li10, li11, li12, li13, li14, li15, li16, li20, li24, li26, li30, li31, li32, li40, li41, li43, li48, li50, li52, li57, li59, li60, li62, li64, li65, li66, li67, li97, li99, li100, li122, li236, li239, li240, li255, li254, li256, li304, li400, li703, li704, li999, li1000000, li2000000000, li3344, li3648, li9999, li10000, li32767, lm1, hm8, hc8]
    rw [hW.guests, hG, if_neg (nI_ge hi (by omega)), if_neg (nI_ge hi (by omega)), hW.here hi8, x_isHere _ hi8, mob_sm, nI_add]
    cases hh : sHere (tw_m t1) i
    · simp only [Bool.false_eq_true, if_false]
      exact ih (x, y, b) hx
    · simp only [if_true]
      rw [x_of _ hi8 (by omega), mob_sm, x_lesser, mob_sm, mob_sm, x_greater, mob_sm, hW.doubt hi8]
      obtain ⟨j, hj, ej⟩ := hI.doubt hi8
      obtain ⟨k, hk, ek⟩ := hx
      rw [ej]
      subst ek
      cases b
      · have := ih (nI j, zmx y (nI j), true) (isN_n hj)
        simp only [Bool.false_eq_true, if_false, if_true] at this ⊢
        rw [zmnN (by omega) (by omega), zmnN (by omega) (by omega), show min 1000000 j = j by omega, show min 99 j = j by omega]
        exact this
      · have := ih (zmn (nI k) (nI j), zmx y (nI j), true) (by rw [zmnN (by omega) (by omega)]; exact isN_n (by omega))
        simp only [if_true] at this ⊢
        exact this
theorem o_spread (h : Cp Sm us sh w im rd t) (sth : Wd) (ssc : Sc) (p : Int32) : QO cdA (fX1_spread Sm sh w sth ssc p) (fX6_spread t p) (Cp Sm us sh w im rd) := by
  unfold fX1_spread fX6_spread
  simp only [li0, li1, li2, li3, li4, li5, li6, li7, li8, li9, li10, li11, li12, li13, li14, li15, li16, li20, li24, li26, li30, li31, li32, li40, li41, li43, li48, li50, li52, li57, li59, li60, li62, li64, li65, li66, li67, li97, li99, li100, li122, li236, li239, li240, li255, li254, li256, li304, li400, li703, li704, li999, li1000000, li2000000000, li3344, li3648, li9999, li10000, li32767, lm1, mjn_e, mlt_e]
  rw [c_in', mob_sm, x_in, mob_sm]
  cases hr2 : rin p (nI 0) (nI 400)
  · simp only [c_demand, Bool.false_eq_true, if_false, if_true, mox_r, mox_l, mob_sm, mo2_sm, bz_f, bz_t, twg_thrown_thrown, twg_thrown_m, t_le00, t_lt00, t_eq00, t_le10, t_lt10, t_eq10, t_le20, t_lt20, t_eq20, t_le30, t_lt30, t_eq30, t_lt01, t_lt02, t_lt03]
    exact QO.no cdA_A _ (by decide +kernel) h
  · obtain ⟨N, hN, rfl⟩ := rin_N (by omega) hr2
    have h0 : Cp Sm us sh w im rd (tw_s_thrown t (nI 0)) := h
    have h00 : tw_thrown (tw_s_thrown t (nI 0)) = nI 0 := rfl
    obtain ⟨o, w', s', t', r, e1, e2, e3⟩ := d_worldAt h0 sth ssc hN
    obtain ⟨t6, f1, f2, f3, -⟩ := x_cb e3.2.1
    have ea : fX6_putsAside (tw_s_thrown t (nI 0)) = some (asd (tw_s_thrown t (nI 0))) := x_putsAside _
    simp only [c_demand, Bool.false_eq_true, if_false, if_true, mox_r, mox_l, mob_sm, mo2_sm, bz_f, bz_t, twg_thrown_thrown, twg_thrown_m, t_le00, t_lt00, t_eq00, t_le10, t_lt10, t_eq10, t_le20, t_lt20, t_eq20, t_le30, t_lt30, t_eq30, t_lt01, t_lt02, t_lt03]
    rw [e1, mob_sm, ea, mob_sm, e2, mo2_sm]
    obtain ⟨x, y, b, k1, k2, k3⟩ := b_spread e3.1.1 e3.1.2.1 (fun (x3_11 : Int32) (x4_12 : Int32) => if x3_11 = nI 1000000 then some (.inr (nI 0, (w', s'))) else some (.inr ((x4_12 - x3_11), (w', s')))) (fun (x3_15 : Int32) (x4_16 : Int32) (x5_17 : Bool) => mob (fX6_comesBack t') fun t_20 => if x5_17 = true then some ((x4_16 - x3_15), t_20) else some (nI 0, t_20))
    rw [k1, k2, f1, mob_sm]
    cases b
    · simp only [Bool.false_eq_true, if_false, if_true]
      exact QO.ok _ _ (f3.trans h00) (h0.cf f2)
    · obtain ⟨j, hj, rfl⟩ := k3
      simp only [if_true]
      rw [if_neg (fun q => absurd ((nI_eq (by omega) (by omega)).mp q) (by omega))]
      exact QO.ok _ _ (f3.trans h00) (h0.cf f2)
theorem x_goesT {o w1 : Wd} {t0 t1 : Tw} (h : SD Sm o t0 w1 t1) (sh : Kp) (ssc : Sc) {N : Nat} (hN : N ≤ 400) : ∃ (w' : Wd) (s' : Sc) (t' : Tw), fX1_tries Sm sh w1 ssc (nI N) = some (w', s') ∧ (∀ K14 : Wd → Sc → Option ((String × Wd × Sc) ⊕ (Int32 × Wd × Sc)), fX1_days_L24 (nI N) K14 Sm sh mFU (nI 0) w1 ssc = K14 w' s') ∧ fX6_goes t1 (nI N) true = some (tw_m t' 11 - tw_m t1 11, t') ∧ SD Sm o t0 w' t' := by
  obtain ⟨w', s', t', e1, e2, e3, e4⟩ := d_tries h sh ssc hN
  refine ⟨w', s', t', ?_, e2, ?_, e4⟩
  · unfold fX1_tries
    simp only [li0, li1, li2, li3, li4, li5, li6, li7, li8, li9, li10, li11, li12, li13, li14, li15, li16, li20, li24, li26, li30, li31, li32, li40, li41, li43, li48, li50, li52, li57, li59, li60, li62, li64, li65, li66, li67, li97, li99, li100, li122, li236, li239, li240, li255, li254, li256, li304, li400, li703, li704, li999, li1000000, li2000000000, li3344, li3648, li9999, li10000, li32767, lm1]
    exact e1
  · unfold fX6_goes
    simp only [li0, li1, li2, li3, li4, li5, li6, li7, li8, li9, li10, li11, li12, li13, li14, li15, li16, li20, li24, li26, li30, li31, li32, li40, li41, li43, li48, li50, li52, li57, li59, li60, li62, li64, li65, li66, li67, li97, li99, li100, li122, li236, li239, li240, li255, li254, li256, li304, li400, li703, li704, li999, li1000000, li2000000000, li3344, li3648, li9999, li10000, li32767, lm1]
    rw [mjn_e, e3]
theorem o_trial (h : Cp Sm us sh w im rd t) (str : Wd) (ssc : Sc) (p : Int32) (b : Bool) : QO cdA (fX1_trial Sm sh w str ssc p b) (fX6_trial t p b) (Cp Sm us sh w im rd) := by
  unfold fX1_trial fX6_trial
  simp only [li0, li1, li2, li3, li4, li5, li6, li7, li8, li9, li10, li11, li12, li13, li14, li15, li16, li20, li24, li26, li30, li31, li32, li40, li41, li43, li48, li50, li52, li57, li59, li60, li62, li64, li65, li66, li67, li97, li99, li100, li122, li236, li239, li240, li255, li254, li256, li304, li400, li703, li704, li999, li1000000, li2000000000, li3344, li3648, li9999, li10000, li32767, lm1, mjn_e, mlt_e]
  rw [c_in', mob_sm, x_in, mob_sm]
  cases hr2 : rin p (nI 0) (nI 60)
  · simp only [c_demand, Bool.false_eq_true, if_false, if_true, mox_r, mox_l, mob_sm, mo2_sm, bz_f, bz_t, twg_thrown_thrown, twg_thrown_m, t_le00, t_lt00, t_eq00, t_le10, t_lt10, t_eq10, t_le20, t_lt20, t_eq20, t_le30, t_lt30, t_eq30, t_lt01, t_lt02, t_lt03]
    exact QO.no cdA_A _ (by decide +kernel) h
  · obtain ⟨N, hN, rfl⟩ := rin_N (by omega) hr2
    have h0 : Cp Sm us sh w im rd (tw_s_thrown t (nI 0)) := h
    have h00 : tw_thrown (tw_s_thrown t (nI 0)) = nI 0 := rfl
    obtain ⟨o, ho⟩ := likens_some str w
    obtain ⟨w', s', t', e1, -, e2, e3⟩ := x_goesT (sd0 h0 ho) sh ssc (N := N) (by omega)
    obtain ⟨t6, f1, f2, f3, -⟩ := x_cb e3.2.1
    have ea : fX6_putsAside (tw_s_thrown t (nI 0)) = some (asd (tw_s_thrown t (nI 0))) := x_putsAside _
    have em : tw_m (asd (tw_s_thrown t (nI 0))) = tw_m t := rfl
    simp only [c_demand, Bool.false_eq_true, if_false, if_true, mox_r, mox_l, mob_sm, mo2_sm, bz_f, bz_t, twg_thrown_thrown, twg_thrown_m, t_le00, t_lt00, t_eq00, t_le10, t_lt10, t_eq10, t_le20, t_lt20, t_eq20, t_le30, t_lt30, t_eq30, t_lt01, t_lt02, t_lt03]
    rw [ho, mob_sm, e1, mob_sm, ea, mob_sm, e2, mo2_sm, em]
    cases b
    · simp only [Bool.false_eq_true, if_false]
      rw [f1, mob_sm, e3.1.1.seen, h.1.1.seen]
      exact QO.ok _ _ (f3.trans h00) (h0.cf f2)
    · simp only [if_true]
      rw [c_allHoles e3.1.1 e3.1.2.1, mob_sm, x_holes, mob_sm, f1, mob_sm]
      exact QO.ok _ _ (f3.trans h00) (h0.cf f2)
theorem o_span (h : Cp Sm us sh w im rd t) (str : Wd) (ssc : Sc) (p : Int32) (b : Bool) : QO cdA (fX1_span Sm sh w str ssc p b) (fX6_span t p b) (Cp Sm us sh w im rd) := by
  unfold fX1_span fX6_span
  simp only [li0, li1, li2, li3, li4, li5, li6, li7, li8, li9, li10, li11, li12, li13, li14, li15, li16, li20, li24, li26, li30, li31, li32, li40, li41, li43, li48, li50, li52, li57, li59, li60, li62, li64, li65, li66, li67, li97, li99, li100, li122, li236, li239, li240, li255, li254, li256, li304, li400, li703, li704, li999, li1000000, li2000000000, li3344, li3648, li9999, li10000, li32767, lm1, mjn_e, mlt_e]
  rw [c_in', mob_sm, x_in, mob_sm]
  cases hr2 : rin p (nI 0) (nI 60)
  · simp only [c_demand, Bool.false_eq_true, if_false, if_true, mox_r, mox_l, mob_sm, mo2_sm, bz_f, bz_t, twg_thrown_thrown, twg_thrown_m, t_le00, t_lt00, t_eq00, t_le10, t_lt10, t_eq10, t_le20, t_lt20, t_eq20, t_le30, t_lt30, t_eq30, t_lt01, t_lt02, t_lt03]
    exact QO.no cdA_A _ (by decide +kernel) h
  · obtain ⟨N, hN, rfl⟩ := rin_N (by omega) hr2
    have h0 : Cp Sm us sh w im rd (tw_s_thrown t (nI 0)) := h
    have h00 : tw_thrown (tw_s_thrown t (nI 0)) = nI 0 := rfl
    have ea : fX6_putsAside (tw_s_thrown t (nI 0)) = some (asd (tw_s_thrown t (nI 0))) := x_putsAside _
    simp only [c_demand, Bool.false_eq_true, if_false, if_true, mox_r, mox_l, mob_sm, mo2_sm, bz_f, bz_t, twg_thrown_thrown, twg_thrown_m, t_le00, t_lt00, t_eq00, t_le10, t_lt10, t_eq10, t_le20, t_lt20, t_eq20, t_le30, t_lt30, t_eq30, t_lt01, t_lt02, t_lt03]
    rw [ea, mob_sm]
    generalize tw_s_thrown t (nI 0) = tt at h0 h00 ⊢
    have key : ∃ (r : Int32) (w' : Wd) (s' : Sc) (t' : Tw), fX1_span_L15 w Sm sh (nI N) b mFU nM (nI (0 + 1)) str ssc = some (.inr (r, (w', s'))) ∧ fX6_span_L37 (nI N) b mFU nM (nI (0 + 1)) (asd tt) = some (r, t') ∧ CF tt t' ∧ tw_thrown t' = tw_thrown tt := by
      refine lpU (fun n i (a : Int32 × Wd × Sc × Tw) => ∃ (r : Int32) (w' : Wd) (s' : Sc) (t' : Tw), fX1_span_L15 w Sm sh (nI N) b n a.1 (nI (i + 1)) a.2.1 a.2.2.1 = some (.inr (r, (w', s'))) ∧ fX6_span_L37 (nI N) b n a.1 (nI (i + 1)) a.2.2.2 = some (r, t') ∧ CF tt t' ∧ tw_thrown t' = tw_thrown tt) (fun i a => DF (asd tt) a.2.2.2 ∧ CF tt a.2.2.2 ∧ tw_thrown a.2.2.2 = tw_thrown tt) 6 ?_ ?_ (n := mFU) (by decide) (nM, str, ssc, asd tt) ⟨DF.refl _, ⟨rfl, rfl, rfl, rfl, rfl, rfl, rfl, rfl⟩, rfl⟩
      · rintro n ⟨x, w1, s1, t1⟩ hs
        have hs : DF (asd tt) t1 ∧ CF tt t1 ∧ tw_thrown t1 = tw_thrown tt := hs
        refine ⟨x, w1, s1, t1, ?_, ?_, hs.2⟩
        · simp only [fX1_span_L15, li0, li1, li2, li3, li4, li5, li6, li7, li8, li9, li10, li11, li12, li13, li14, li15, li16, li20, li24, li26, li30, li31, li32, li40, li41, li43, li48, li50, li52, li57, li59, li60, li62, li64, li65, li66, li67, li97, li99, li100, li122, li236, li239, li240, li255, li254, li256, li304, li400, li703, li704, li999, li1000000, li2000000000, li3344, li3648, li9999, li10000, li32767, lm1]
          rw [if_pos (by decide +kernel)]
        · simp only [fX6_span_L37, li0, li1, li2, li3, li4, li5, li6, li7, li8, li9, li10, li11, li12, li13, li14, li15, li16, li20, li24, li26, li30, li31, li32, li40, li41, li43, li48, li50, li52, li57, li59, li60, li62, li64, li65, li66, li67, li97, li99, li100, li122, li236, li239, li240, li255, li254, li256, li304, li400, li703, li704, li999, li1000000, li2000000000, li3344, li3648, li9999, li10000, li32767, lm1]
          rw [if_pos (by decide +kernel)]
      · rintro n i ⟨x, w1, s1, t1⟩ hi hs ih
        have hs : DF (asd tt) t1 ∧ CF tt t1 ∧ tw_thrown t1 = tw_thrown tt := hs
        obtain ⟨hD, hC, hT⟩ := hs
        have h6 : ¬ nI 6 < nI (i + 1) := fun q => absurd ((nI_ltI (by omega) (by omega)).mp q) (by omega)
        obtain ⟨o, ho⟩ := likens_some w1 w
        have hWM : WM Sm o (tw_m t1) := by rw [hC.1]; exact h0.1.likens ho
        have hS1 : SD Sm o (asd tt) o t1 := ⟨hWM, hD, rfl⟩
        have hS2 : SD Sm o (asd tt) (wd_s_seed o (nI (i + 1))) (tw_s_m t1 (upd (tw_m t1) 15 (nI (i + 1)))) := hS1.set (hWM.1.up_seed _) rfl (by omega) (by omega) (fun n hn => by rw [show rng 15 = none from by decide] at hn; exact nomatch hn)
        obtain ⟨w', s', t', e1, -, e2, e3⟩ := x_goesT hS2 sh s1 (N := N) (by omega)
        obtain ⟨t6, f1, f2, f3, f4⟩ := x_cb e3.2.1
        have e11 : tw_m (tw_s_m t1 (upd (tw_m t1) 15 (nI (i + 1)))) 11 = wd_seen w := by rw [twg_m_m, upd_n (by omega), hC.1, h0.1.1.seen]
        rw [e11] at e2
        have es : wd_seen w' - wd_seen w = tw_m t' 11 - wd_seen w := by rw [e3.1.1.seen]
        have nx := fun z : Int32 => ih (z, w', s', t6) ⟨f4, f2, f3⟩
        show ∃ (r : Int32) (w' : Wd) (s' : Sc) (t' : Tw), fX1_span_L15 w Sm sh (nI N) b (n + 1) x (nI (i + 1)) w1 s1 = some (.inr (r, (w', s'))) ∧ fX6_span_L37 (nI N) b (n + 1) x (nI (i + 1)) t1 = some (r, t') ∧ CF tt t' ∧ tw_thrown t' = tw_thrown tt
        simp only [fX1_span_L15, fX6_span_L37, li0, li1, li2, li3, li4, li5, li6, li7, li8, li9, li10, li11, li12, li13, li14, li15, li16, li20, li24, li26, li30, li31, li32, li40, li41, li43, li48, li50, li52, li57, li59, li60, li62, li64, li65, li66, li67, li97, li99, li100, li122, li236, li239, li240, li255, li254, li256, li304, li400, li703, li704, li999, li1000000, li2000000000, li3344, li3648, li9999, li10000, li32767, lm1, mlt_e]
        rw [if_neg h6, if_neg h6, ho, mob_sm, e1, mob_sm, e2, mo2_sm, f1, mob_sm, nI_add, es]
        by_cases q : x = nM
        · rw [if_pos q, if_pos q]
          exact nx _
        · rw [if_neg q, if_neg q]
          cases b
          · rw [if_neg (by decide), if_neg (by decide), x_lesser, mob_sm]
            exact nx _
          · rw [if_pos rfl, if_pos rfl, x_greater, mob_sm]
            exact nx _
    obtain ⟨r, w', s', t', e1, e2, e3, e4⟩ := key
    rw [Nat.zero_add] at e1 e2
    rw [e1, e2]
    exact QO.ok _ _ (e4.trans h00) (h0.cf e3)
/-- days that go -/
theorem a_days (h : Cp Sm us sh w im rd t) (ssc : Sc) (p : Int32) : (∃ (r : Int32) (w' : Wd) (s' : Sc) (t6 : Tw), fX1_days Sm sh w ssc p = some (.inr (r, (w', s'))) ∧ fX6_days t p = some (r, t6) ∧ tw_thrown t6 = nI 0 ∧ GA Sm us sh w im rd w' t6) ∨ ∃ (E : String) (r : Int32), fX1_days Sm sh w ssc p = some (.inl (E, (w, ssc))) ∧ ¬ cdA E = nI 0 ∧ fX6_days t p = some (r, tw_s_thrown t (cdA E)) := by
  unfold fX1_days fX6_days
  simp only [li0, li1, li2, li3, li4, li5, li6, li7, li8, li9, li10, li11, li12, li13, li14, li15, li16, li20, li24, li26, li30, li31, li32, li40, li41, li43, li48, li50, li52, li57, li59, li60, li62, li64, li65, li66, li67, li97, li99, li100, li122, li236, li239, li240, li255, li254, li256, li304, li400, li703, li704, li999, li1000000, li2000000000, li3344, li3648, li9999, li10000, li32767, lm1, mjn_e, mlt_e]
  rw [c_in', mob_sm, x_in, mob_sm]
  cases hr2 : rin p (nI 1) (nI 60)
  · simp only [c_demand, Bool.false_eq_true, if_false, if_true, mox_r, mox_l, mob_sm, mo2_sm, bz_f, bz_t, twg_thrown_thrown, twg_thrown_m, t_le00, t_lt00, t_eq00, t_le10, t_lt10, t_eq10, t_le20, t_lt20, t_eq20, t_le30, t_lt30, t_eq30, t_lt01, t_lt02, t_lt03]
    exact Or.inr ⟨eA, nI 0, rfl, by rw [cdA_A]; decide +kernel, by rw [cdA_A]⟩
  · obtain ⟨N, hN1, hN, rfl⟩ := rin_1 (by omega) hr2
    have h0 : Cp Sm us sh w im rd (tw_s_thrown t (nI 0)) := h
    have ha : tw_acted (tw_s_thrown t (nI 0)) = nI us.length := h.2.2.2.2.1
    have ha2 : us.length ≤ 12 := h.2.2.2.2.2.1
    have er := x_remembers (tw_s_thrown t (nI 0)) ha ha2
    simp only [c_demand, Bool.false_eq_true, if_false, if_true, mox_r, mox_l, mob_sm, mo2_sm, bz_f, bz_t, twg_thrown_thrown, twg_thrown_m, t_le00, t_lt00, t_eq00, t_le10, t_lt10, t_eq10, t_le20, t_lt20, t_eq20, t_le30, t_lt30, t_eq30, t_lt01, t_lt02, t_lt03]
    rw [er, mob_sm]
    obtain ⟨t1, et1⟩ : ∃ z, z = tw_s_acted (tw_s_acts (tw_s_thrown t (nI 0)) (remA (tw_s_thrown t (nI 0)) us.length)) (nI (if us.length = 12 then 12 else us.length + 1)) := ⟨_, rfl⟩
    rw [← et1]
    have hS : SD Sm w t1 w t1 := ⟨by rw [et1]; exact h.1, DF.refl _, rfl⟩
    obtain ⟨w', s', t', -, e1, e2, e3⟩ := x_goesT hS sh ssc (N := N) (by omega)
    have em : tw_m t1 11 = wd_seen w := by rw [et1]; exact h.1.1.seen.symm
    rw [e1, e2, mo2_sm, em, ← e3.1.1.seen]
    refine Or.inl ⟨_, w', s', t', rfl, rfl, ?_, ?_⟩
    · rw [e3.2.1.1.2.2.2.2.2.2.2.1, et1]
      rfl
    · intro u0 ou hl
      have hm1 : tw_m t1 = tw_m t := by rw [et1]; rfl
      have hk : ∀ k, (k < 4 ∨ 304 ≤ k) → tw_m t' k = tw_m t k := fun k hk => by rw [e3.2.1.2 k hk, hm1]
      have h1 := h0.act hl e3.1.1 e3.1.2.1 e3.2.2 (hk 1 (by omega)) (hk 2 (by omega)) (fun k a _ => hk k (Or.inr a))
      rw [← et1] at h1
      obtain ⟨⟨b1, b2, b3, b4, b5, b6, b7, b8, b9⟩, b⟩ := e3.2.1
      exact h1.cf ⟨rfl, b1, b2, b4, b5, b6, b7, b9⟩
end TRIALS
