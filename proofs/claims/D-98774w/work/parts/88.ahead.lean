/-! PURE LAWS: days, days ahead, trials -/
/-- the same but for what was put aside and what a reading uses -/
def CF (t t' : Tw) : Prop := tw_m t' = tw_m t ∧ tw_kept t' = tw_kept t ∧ tw_hasImage t' = tw_hasImage t ∧ tw_acts t' = tw_acts t ∧ tw_acted t' = tw_acted t ∧ tw_tape t' = tw_tape t ∧ tw_taped t' = tw_taped t ∧ tw_fault t' = tw_fault t
theorem Cp.cf {Sm : zSem} {us : List Wd} {sh : Kp} {w im : Wd} {rd : Rd} {t t' : Tw} (h : Cp Sm us sh w im rd t) (f : CF t t') : Cp Sm us sh w im rd t' := by
  obtain ⟨a1, a2, a3, a5, a6, a7, a8, hf⟩ := f
  unfold Cp at h ⊢
  rw [a1, a2, a3, a5, a6, a7, a8, hf]
  exact h
theorem likens_some (u w : Wd) : ∃ o : Wd, fX2_likens u w = some o := by
  unfold fX2_likens
  simp only [mlt_e]
  exact ⟨_, rfl⟩
def asd (t : Tw) : Tw := tw_s_aside t (cpf (tw_aside t) 0 (tw_m t) 304)
theorem asd_m (t : Tw) : tw_m (asd t) = tw_m t := id rfl
theorem asd_aside (t : Tw) : tw_aside (asd t) = cpf (tw_aside t) 0 (tw_m t) 304 := id rfl
theorem x_cb {t t' : Tw} (h : DF (asd t) t') : ∃ t6 : Tw, fX6_comesBack t' = some t6 ∧ CF t t6 ∧ tw_thrown t6 = tw_thrown t ∧ DF (asd t) t6 := by
  have hm : cpf (tw_m t') 0 (tw_aside t') 304 = tw_m t := by
    rw [h.1.2.2.1, asd_aside]
    funext k
    rcases Nat.lt_or_ge k 304 with q | q
    · rw [cpf_lo q, cpf_lo q]
    · rw [cpf_out (Or.inr (by omega)), h.2 k (Or.inr q), asd_m]
  obtain ⟨⟨b1, b2, b3, b4, b5, b6, b7, b8, b9⟩, b⟩ := h
  refine ⟨_, x_comesBack t', ?_, ?_, ?_⟩
  · rw [hm]
    exact ⟨rfl, b1, b2, b4, b5, b6, b7, b9⟩
  · exact b8
  · rw [hm]
    exact ⟨⟨b1, b2, b3, b4, b5, b6, b7, b8, b9⟩, fun k _ => rfl⟩
theorem x_builds (t : Tw) : fX6_builds t = some (tw_s_m t (qM (tw_m t))) := by
  unfold fX6_builds
  simp only [li0, li1, li2, li3, li4, li5, li6, li7, li8, li9, li10, li11, li12, li13, li14, li15, li16, li20, li24, li26, li30, li31, li32, li40, li41, li43, li48, li50, li52, li57, li59, li60, li62, li64, li65, li66, li67, li97, li99, li100, li122, li236, li239, li240, li255, li254, li256, li304, li400, li703, li704, li999, li1000000, li2000000000, li3344, li3648, li9999, li10000, li32767, lm1, mlt_e]
  rw [x_lesser, mob_sm, x_lesser, mob_sm]
  simp only [twg_m_m]
  rw [upd_n (show 7 ≠ 8 by omega)]
  rfl
theorem qM_congr {m m' : Nat → Int32} (h : ∀ k, 6 ≤ k → k ≤ 8 → m k = m' k) {k : Nat} (h6 : 6 ≤ k) (h8 : k ≤ 8) : qM m k = qM m' k := by
  unfold qM qN
  rw [h 6 (by omega) (by omega), h 7 (by omega) (by omega), h 8 (by omega) (by omega)]
  by_cases q7 : k = 7
  · subst q7; rw [upd_s, upd_s]
  · rw [upd_n q7, upd_n q7]
    by_cases q8 : k = 8
    · subst q8; rw [upd_s, upd_s]
    · rw [upd_n q8, upd_n q8, h k h6 h8]
theorem qM_far {m : Nat → Int32} {k : Nat} (hk : k < 4 ∨ 304 ≤ k) : qM m k = m k := by
  unfold qM
  rw [upd_n (by omega), upd_n (by omega)]
theorem mFU_99 : ∃ n, mFU = n + 1 ∧ 1000 < n := ⟨99999, by decide +kernel, by omega⟩
section AHEAD
variable {Sm : zSem} {us : List Wd} {sh : Kp} {w im : Wd} {rd : Rd} {t : Tw}
theorem sd0 (h : Cp Sm us sh w im rd t) {u o : Wd} (hl : fX2_likens u w = some o) : SD Sm o (asd t) o (asd t) := ⟨h.1.likens hl, DF.refl _, rfl⟩
theorem d_worldAt (h : Cp Sm us sh w im rd t) (sth : Wd) (ssc : Sc) {N : Nat} (hN : N ≤ 400) : ∃ (o w' : Wd) (s' : Sc) (t' : Tw) (r : Int32), fX1_worldAt Sm sh w sth ssc (nI N) = some (w', s') ∧ fX6_goes (asd t) (nI N) false = some (r, t') ∧ SD Sm o (asd t) w' t' := by
  obtain ⟨o, ho⟩ := likens_some sth w
  obtain ⟨w', s', t', e1, e2, e3⟩ := d_aheadN (sd0 h ho) sh ssc hN
  refine ⟨o, w', s', t', tw_m t' 11 - tw_m (asd t) 11, ?_, ?_, e3⟩
  · unfold fX1_worldAt
    simp only [li0, li1, li2, li3, li4, li5, li6, li7, li8, li9, li10, li11, li12, li13, li14, li15, li16, li20, li24, li26, li30, li31, li32, li40, li41, li43, li48, li50, li52, li57, li59, li60, li62, li64, li65, li66, li67, li97, li99, li100, li122, li236, li239, li240, li255, li254, li256, li304, li400, li703, li704, li999, li1000000, li2000000000, li3344, li3648, li9999, li10000, li32767, lm1]
    rw [ho, mob_sm, mjn_e, e1]
  · unfold fX6_goes
    simp only [li0, li1, li2, li3, li4, li5, li6, li7, li8, li9, li10, li11, li12, li13, li14, li15, li16, li20, li24, li26, li30, li31, li32, li40, li41, li43, li48, li50, li52, li57, li59, li60, li62, li64, li65, li66, li67, li97, li99, li100, li122, li236, li239, li240, li255, li254, li256, li304, li400, li703, li704, li999, li1000000, li2000000000, li3344, li3648, li9999, li10000, li32767, lm1]
    rw [mjn_e, e2]
theorem o_ahead (h : Cp Sm us sh w im rd t) (sth : Wd) (ssc : Sc) (p q r : Int32) : QO cdIAN (fX1_ahead Sm sh w sth ssc p q r) (fX6_ahead t p q r) (Cp Sm us sh w im rd) := by
  have hW := h.1.1
  have hI := h.1.2.1
  have hG := hI.G
  unfold fX1_ahead fX6_ahead
  simp only [li0, li1, li2, li3, li4, li5, li6, li7, li8, li9, li10, li11, li12, li13, li14, li15, li16, li20, li24, li26, li30, li31, li32, li40, li41, li43, li48, li50, li52, li57, li59, li60, li62, li64, li65, li66, li67, li97, li99, li100, li122, li236, li239, li240, li255, li254, li256, li304, li400, li703, li704, li999, li1000000, li2000000000, li3344, li3648, li9999, li10000, li32767, lm1, mjn_e, mlt_e]
  rw [c_guestAt hW, x_isGuest, mob_sm]
  cases hr : rin p (nI 0) (tw_m t 3 - nI 1)
  · simp only [Bool.false_eq_true, if_false, if_true, mox_r, mox_l, mob_sm, mo2_sm, bz_f, bz_t, twg_thrown_thrown, twg_thrown_m, t_le00, t_lt00, t_eq00, t_le10, t_lt10, t_eq10, t_le20, t_lt20, t_eq20, t_le30, t_lt30, t_eq30, t_lt01, t_lt02, t_lt03]
    exact QO.no cdIAN_I _ (by decide +kernel) h
  · obtain ⟨g, hg, rfl⟩ := rin_G hI hr
    have hg8 : g < 8 := by omega
    rw [c_in', mob_sm, x_in, mob_sm]
    cases hr2 : rin q (nI 0) (nI 400)
    · simp only [c_demand, Bool.false_eq_true, if_false, if_true, mox_r, mox_l, mob_sm, mo2_sm, bz_f, bz_t, twg_thrown_thrown, twg_thrown_m, t_le00, t_lt00, t_eq00, t_le10, t_lt10, t_eq10, t_le20, t_lt20, t_eq20, t_le30, t_lt30, t_eq30, t_lt01, t_lt02, t_lt03]
      exact QO.no cdIAN_A _ (by decide +kernel) h
    · obtain ⟨N, hN, rfl⟩ := rin_N (by omega) hr2
      rw [c_question, x_in, mob_sm]
      cases hr3 : rin r (nI 0) (nI 2)
      · simp only [c_demand, Bool.false_eq_true, if_false, if_true, mox_r, mox_l, mob_sm, mo2_sm, bz_f, bz_t, twg_thrown_thrown, twg_thrown_m, t_le00, t_lt00, t_eq00, t_le10, t_lt10, t_eq10, t_le20, t_lt20, t_eq20, t_le30, t_lt30, t_eq30, t_lt01, t_lt02, t_lt03]
        exact QO.no cdIAN_N _ (by decide +kernel) h
      · obtain ⟨j, hj, rfl⟩ := rin_N (by omega) hr3
        have h0 : Cp Sm us sh w im rd (tw_s_thrown t (nI 0)) := h
        have h00 : tw_thrown (tw_s_thrown t (nI 0)) = nI 0 := rfl
        obtain ⟨o, w', s', t', r, e1, e2, e3⟩ := d_worldAt h0 sth ssc hN
        obtain ⟨t6, f1, f2, f3, -⟩ := x_cb e3.2.1
        have ea : fX6_putsAside (tw_s_thrown t (nI 0)) = some (asd (tw_s_thrown t (nI 0))) := x_putsAside _
        simp only [c_demand, Bool.false_eq_true, if_false, if_true, mox_r, mox_l, mob_sm, mo2_sm, bz_f, bz_t, twg_thrown_thrown, twg_thrown_m, t_le00, t_lt00, t_eq00, t_le10, t_lt10, t_eq10, t_le20, t_lt20, t_eq20, t_le30, t_lt30, t_eq30, t_lt01, t_lt02, t_lt03]
        rw [e1, mob_sm, ea, mob_sm, e2, mo2_sm]
        simp only [f1, x_of t' hg8 (show 2 < 5 by omega), mob_sm, mckN _ hg8 (show 8 < 2 ^ 31 by omega), clN (show g < 2 ^ 31 by omega), e3.1.1.doubt hg8, e3.1.1.towers, e3.1.1.stones]
        have hj3 : j = 0 ∨ j = 1 ∨ j = 2 := by omega
        rcases hj3 with rfl | rfl | rfl
        · rw [if_pos rfl, if_pos rfl]
          exact QO.ok _ _ (f3.trans h00) (h0.cf f2)
        · rw [if_neg (by decide +kernel), if_pos rfl, if_neg (by decide +kernel), if_pos rfl]
          exact QO.ok _ _ (f3.trans h00) (h0.cf f2)
        · rw [if_neg (by decide +kernel), if_neg (by decide +kernel), if_neg (by decide +kernel), if_neg (by decide +kernel)]
          exact QO.ok _ _ (f3.trans h00) (h0.cf f2)
theorem b_first {o w1 : Wd} {t1 : Tw} (h : SD Sm o t1 w1 t1) (sh : Kp) (ssc : Sc) {g : Nat} (hg : g < 8) (dd : Int32) : ∃ (r : Int32) (w' : Wd) (s' : Sc) (t' : Tw), fX1_first_L29 (nI g) dd Sm sh mFU (nI 0) w1 ssc = some (.inr (r, (w', s'))) ∧ (∀ K : Int32 → Tw → Option (Int32 × Tw), fX6_first_L49 K (nI g) dd mFU nM (nI 0) t1 = K r t') ∧ DF t1 t' := by
  obtain ⟨n0, hn0, hn1⟩ := mFU_99
  rw [hn0]
  refine lpU (fun n i (a : Wd × Sc × Tw) => ∃ (r : Int32) (w' : Wd) (s' : Sc) (t' : Tw), fX1_first_L29 (nI g) dd Sm sh (n + 1) (nI i) a.1 a.2.1 = some (.inr (r, (w', s'))) ∧ (∀ K : Int32 → Tw → Option (Int32 × Tw), fX6_first_L49 K (nI g) dd (n + 1) nM (nI i) a.2.2 = K r t') ∧ DF t1 t') (fun i a => SD Sm o t1 a.1 a.2.2) 401 ?_ ?_ (n := n0) (by omega) (w1, ssc, t1) h
  · rintro n ⟨w2, s2, t2⟩ hs
    have hs : SD Sm o t1 w2 t2 := hs
    refine ⟨nM, w2, s2, t2, ?_, ?_, hs.2.1⟩
    · simp only [fX1_first_L29, li0, li1, li2, li3, li4, li5, li6, li7, li8, li9, li10, li11, li12, li13, li14, li15, li16, li20, li24, li26, li30, li31, li32, li40, li41, li43, li48, li50, li52, li57, li59, li60, li62, li64, li65, li66, li67, li97, li99, li100, li122, li236, li239, li240, li255, li254, li256, li304, li400, li703, li704, li999, li1000000, li2000000000, li3344, li3648, li9999, li10000, li32767, lm1]
      rw [if_pos (by decide +kernel)]
    · intro K
      simp only [fX6_first_L49, li0, li1, li2, li3, li4, li5, li6, li7, li8, li9, li10, li11, li12, li13, li14, li15, li16, li20, li24, li26, li30, li31, li32, li40, li41, li43, li48, li50, li52, li57, li59, li60, li62, li64, li65, li66, li67, li97, li99, li100, li122, li236, li239, li240, li255, li254, li256, li304, li400, li703, li704, li999, li1000000, li2000000000, li3344, li3648, li9999, li10000, li32767, lm1]
      rw [if_pos (by decide +kernel)]
  · rintro n i ⟨w2, s2, t2⟩ hi hs ih
    have hs : SD Sm o t1 w2 t2 := hs
    have hm8 : ∀ {α : Type} (K : Option α), mck (nI g) 8 K = K := fun K => mckN K hg (by omega)
    have hc8 : Int32.toNatClampNeg (nI g) = g := clN (by omega)
    obtain ⟨w3, s3, t3, r3, e1, e2, e3⟩ := x_goes1 hs sh s2
    have h4 : ¬ nI 400 < nI i := fun q => absurd ((nI_ltI (by omega) (by omega)).mp q) (by omega)
    show ∃ (r : Int32) (w' : Wd) (s' : Sc) (t' : Tw), fX1_first_L29 (nI g) dd Sm sh (n + 1 + 1) (nI i) w2 s2 = some (.inr (r, (w', s'))) ∧ (∀ K : Int32 → Tw → Option (Int32 × Tw), fX6_first_L49 K (nI g) dd (n + 1 + 1) nM (nI i) t2 = K r t') ∧ DF t1 t'
    by_cases q : tw_m t2 (24 + 5 * g + 2) < dd
    · obtain ⟨r, w', s', t', f1, f2, f3⟩ := ih (w3, s3, t3) e3
      refine ⟨r, w', s', t', ?_, ?_, f3⟩
      · rw [fX1_first_L29]
        simp only [li0, li1, li2, li3, li4, li5, li6, li7, li8, li9, li10, li11, li12, li13, li14, li15, li16, li20, li24, li26, li30, li31, li32, li40, li41, li43, li48, li50, li52, li57, li59, li60, li62, li64, li65, li66, li67, li97, li99, li100, li122, li236, li239, li240, li255, li254, li256, li304, li400, li703, li704, li999, li1000000, li2000000000, li3344, li3648, li9999, li10000, li32767, lm1, hm8, hc8]
        rw [if_neg h4, hs.1.1.doubt hg, if_pos q, e1, mob_sm, nI_add]
        exact f1
      · intro K
        rw [fX6_first_L49]
        simp only [li0, li1, li2, li3, li4, li5, li6, li7, li8, li9, li10, li11, li12, li13, li14, li15, li16, li20, li24, li26, li30, li31, li32, li40, li41, li43, li48, li50, li52, li57, li59, li60, li62, li64, li65, li66, li67, li97, li99, li100, li122, li236, li239, li240, li255, li254, li256, li304, li400, li703, li704, li999, li1000000, li2000000000, li3344, li3648, li9999, li10000, li32767, lm1, mjn_e]
        rw [if_neg h4, if_pos trivial, x_of _ hg (by omega), mob_sm, if_pos q, e2, mo2_sm, nI_add]
        exact f2 K
    · refine ⟨nI i, w2, s2, t3, ?_, ?_, e3.2.1⟩
      · rw [fX1_first_L29]
        simp only [li0, li1, li2, li3, li4, li5, li6, li7, li8, li9, li10, li11, li12, li13, li14, li15, li16, li20, li24, li26, li30, li31, li32, li40, li41, li43, li48, li50, li52, li57, li59, li60, li62, li64, li65, li66, li67, li97, li99, li100, li122, li236, li239, li240, li255, li254, li256, li304, li400, li703, li704, li999, li1000000, li2000000000, li3344, li3648, li9999, li10000, li32767, lm1, hm8, hc8]
        rw [if_neg h4, hs.1.1.doubt hg, if_neg q]
      · intro K
        rw [fX6_first_L49]
        simp only [li0, li1, li2, li3, li4, li5, li6, li7, li8, li9, li10, li11, li12, li13, li14, li15, li16, li20, li24, li26, li30, li31, li32, li40, li41, li43, li48, li50, li52, li57, li59, li60, li62, li64, li65, li66, li67, li97, li99, li100, li122, li236, li239, li240, li255, li254, li256, li304, li400, li703, li704, li999, li1000000, li2000000000, li3344, li3648, li9999, li10000, li32767, lm1, mjn_e]
        rw [if_neg h4, if_pos trivial, x_of _ hg (by omega), mob_sm, if_neg q, e2, mo2_sm, nI_add, fX6_first_L49]
        simp only [li0, li1, li2, li3, li4, li5, li6, li7, li8, li9, li10, li11, li12, li13, li14, li15, li16, li20, li24, li26, li30, li31, li32, li40, li41, li43, li48, li50, li52, li57, li59, li60, li62, li64, li65, li66, li67, li97, li99, li100, li122, li236, li239, li240, li255, li254, li256, li304, li400, li703, li704, li999, li1000000, li2000000000, li3344, li3648, li9999, li10000, li32767, lm1, mjn_e]
        by_cases y : nI 400 < nI (i + 1)
        · rw [if_pos y]
        · rw [if_neg y, if_neg (nM_ne (by omega))]
theorem o_first (h : Cp Sm us sh w im rd t) (sth : Wd) (ssc : Sc) (p q : Int32) : QO cdIA (fX1_first Sm sh w sth ssc p q) (fX6_first t p q) (Cp Sm us sh w im rd) := by
  have hW := h.1.1
  have hI := h.1.2.1
  have hG := hI.G
  unfold fX1_first fX6_first
  simp only [li0, li1, li2, li3, li4, li5, li6, li7, li8, li9, li10, li11, li12, li13, li14, li15, li16, li20, li24, li26, li30, li31, li32, li40, li41, li43, li48, li50, li52, li57, li59, li60, li62, li64, li65, li66, li67, li97, li99, li100, li122, li236, li239, li240, li255, li254, li256, li304, li400, li703, li704, li999, li1000000, li2000000000, li3344, li3648, li9999, li10000, li32767, lm1, mjn_e, mlt_e]
  rw [c_guestAt hW, x_isGuest, mob_sm]
  cases hr : rin p (nI 0) (tw_m t 3 - nI 1)
  · simp only [Bool.false_eq_true, if_false, if_true, mox_r, mox_l, mob_sm, mo2_sm, bz_f, bz_t, twg_thrown_thrown, twg_thrown_m, t_le00, t_lt00, t_eq00, t_le10, t_lt10, t_eq10, t_le20, t_lt20, t_eq20, t_le30, t_lt30, t_eq30, t_lt01, t_lt02, t_lt03]
    exact QO.no cdIA_I _ (by decide +kernel) h
  · obtain ⟨g, hg, rfl⟩ := rin_G hI hr
    have hg8 : g < 8 := by omega
    rw [c_in', mob_sm, x_in, mob_sm]
    cases hr2 : rin q (nI 1) (nI 99)
    · simp only [c_demand, Bool.false_eq_true, if_false, if_true, mox_r, mox_l, mob_sm, mo2_sm, bz_f, bz_t, twg_thrown_thrown, twg_thrown_m, t_le00, t_lt00, t_eq00, t_le10, t_lt10, t_eq10, t_le20, t_lt20, t_eq20, t_le30, t_lt30, t_eq30, t_lt01, t_lt02, t_lt03]
      exact QO.no cdIA_A _ (by decide +kernel) h
    · have h0 : Cp Sm us sh w im rd (tw_s_thrown t (nI 0)) := h
      have h00 : tw_thrown (tw_s_thrown t (nI 0)) = nI 0 := rfl
      obtain ⟨o, ho⟩ := likens_some sth w
      obtain ⟨r, w', s', t', e1, e2, e3⟩ := b_first (sd0 h0 ho) sh ssc hg8 q
      obtain ⟨t6, f1, f2, f3, -⟩ := x_cb e3
      have ea : fX6_putsAside (tw_s_thrown t (nI 0)) = some (asd (tw_s_thrown t (nI 0))) := x_putsAside _
      simp only [c_demand, Bool.false_eq_true, if_false, if_true, mox_r, mox_l, mob_sm, mo2_sm, bz_f, bz_t, twg_thrown_thrown, twg_thrown_m, t_le00, t_lt00, t_eq00, t_le10, t_lt10, t_eq10, t_le20, t_lt20, t_eq20, t_le30, t_lt30, t_eq30, t_lt01, t_lt02, t_lt03]
      rw [ho, mob_sm, e1, ea, mob_sm, e2, f1, mob_sm]
      exact QO.ok _ _ (f3.trans h00) (h0.cf f2)
/-! stones, towers: the reference builds only -/
theorem b_gone {o w1 : Wd} {t1 : Tw} (h : SD Sm o t1 w1 t1) (sh : Kp) (ssc : Sc) : ∃ (r : Int32) (w' : Wd) (s' : Sc) (t' : Tw), fX1_gone_L14 Sm sh mFU (nI 0) w1 ssc = some (r, (w', s')) ∧ (∀ K : Int32 → Tw → Option (Int32 × Tw), fX6_builtBy_L8 K (nI 0) mFU nM (nI 0) t1 = K r t') ∧ DF t1 t' := by
  obtain ⟨n0, hn0, hn1⟩ := mFU_99
  rw [hn0]
  refine lpU (fun n i (a : Wd × Sc × Tw × Tw) => ∃ (r : Int32) (w' : Wd) (s' : Sc) (t' : Tw), fX1_gone_L14 Sm sh (n + 1) (nI i) a.1 a.2.1 = some (r, (w', s')) ∧ (∀ K : Int32 → Tw → Option (Int32 × Tw), fX6_builtBy_L8 K (nI 0) (n + 1) nM (nI i) a.2.2.2 = K r t') ∧ DF t1 t') (fun i a => SD Sm o t1 a.1 a.2.2.1 ∧ DF t1 a.2.2.2 ∧ ∀ k, 6 ≤ k → k ≤ 8 → tw_m a.2.2.2 k = tw_m a.2.2.1 k) 401 ?_ ?_ (n := n0) (by omega) (w1, ssc, t1, t1) ⟨h, DF.refl _, fun _ _ _ => rfl⟩
  · rintro n ⟨w2, s2, t2, tB⟩ hs
    have hs : SD Sm o t1 w2 t2 ∧ DF t1 tB ∧ ∀ k, 6 ≤ k → k ≤ 8 → tw_m tB k = tw_m t2 k := hs
    refine ⟨nM, w2, s2, tB, ?_, ?_, hs.2.1⟩
    · simp only [fX1_gone_L14, li0, li1, li2, li3, li4, li5, li6, li7, li8, li9, li10, li11, li12, li13, li14, li15, li16, li20, li24, li26, li30, li31, li32, li40, li41, li43, li48, li50, li52, li57, li59, li60, li62, li64, li65, li66, li67, li97, li99, li100, li122, li236, li239, li240, li255, li254, li256, li304, li400, li703, li704, li999, li1000000, li2000000000, li3344, li3648, li9999, li10000, li32767, lm1]
      rw [if_pos (by decide +kernel)]
    · intro K
      simp only [fX6_builtBy_L8, li0, li1, li2, li3, li4, li5, li6, li7, li8, li9, li10, li11, li12, li13, li14, li15, li16, li20, li24, li26, li30, li31, li32, li40, li41, li43, li48, li50, li52, li57, li59, li60, li62, li64, li65, li66, li67, li97, li99, li100, li122, li236, li239, li240, li255, li254, li256, li304, li400, li703, li704, li999, li1000000, li2000000000, li3344, li3648, li9999, li10000, li32767, lm1]
      rw [if_pos (by decide +kernel)]
  · rintro n i ⟨w2, s2, t2, tB⟩ hi hs ih
    have hs : SD Sm o t1 w2 t2 ∧ DF t1 tB ∧ ∀ k, 6 ≤ k → k ≤ 8 → tw_m tB k = tw_m t2 k := hs
    obtain ⟨hs, hB, hk⟩ := hs
    obtain ⟨w3, s3, t3, e1, -, e3, e4⟩ := d_one hs sh s2
    have hB2 : DF t1 (tw_s_m tB (qM (tw_m tB))) := hB.trans (DF.row tB fun k hk => qM_far hk)
    have h4 : ¬ nI 400 < nI i := fun q => absurd ((nI_ltI (by omega) (by omega)).mp q) (by omega)
    show ∃ (r : Int32) (w' : Wd) (s' : Sc) (t' : Tw), fX1_gone_L14 Sm sh (n + 1 + 1) (nI i) w2 s2 = some (r, (w', s')) ∧ (∀ K : Int32 → Tw → Option (Int32 × Tw), fX6_builtBy_L8 K (nI 0) (n + 1 + 1) nM (nI i) tB = K r t') ∧ DF t1 t'
    by_cases q : tw_m t2 7 = nI 0
    · refine ⟨nI i, w2, s2, _, ?_, ?_, hB2⟩
      · rw [fX1_gone_L14]
        simp only [li0, li1, li2, li3, li4, li5, li6, li7, li8, li9, li10, li11, li12, li13, li14, li15, li16, li20, li24, li26, li30, li31, li32, li40, li41, li43, li48, li50, li52, li57, li59, li60, li62, li64, li65, li66, li67, li97, li99, li100, li122, li236, li239, li240, li255, li254, li256, li304, li400, li703, li704, li999, li1000000, li2000000000, li3344, li3648, li9999, li10000, li32767, lm1]
        rw [if_neg h4, hs.1.1.stones, if_pos q]
      · intro K
        rw [fX6_builtBy_L8]
        simp only [li0, li1, li2, li3, li4, li5, li6, li7, li8, li9, li10, li11, li12, li13, li14, li15, li16, li20, li24, li26, li30, li31, li32, li40, li41, li43, li48, li50, li52, li57, li59, li60, li62, li64, li65, li66, li67, li97, li99, li100, li122, li236, li239, li240, li255, li254, li256, li304, li400, li703, li704, li999, li1000000, li2000000000, li3344, li3648, li9999, li10000, li32767, lm1, mjn_e]
        rw [if_neg h4, if_pos trivial, if_pos trivial, hk 7 (by omega) (by omega), if_pos q, x_builds, mob_sm, nI_add, fX6_builtBy_L8]
        simp only [li0, li1, li2, li3, li4, li5, li6, li7, li8, li9, li10, li11, li12, li13, li14, li15, li16, li20, li24, li26, li30, li31, li32, li40, li41, li43, li48, li50, li52, li57, li59, li60, li62, li64, li65, li66, li67, li97, li99, li100, li122, li236, li239, li240, li255, li254, li256, li304, li400, li703, li704, li999, li1000000, li2000000000, li3344, li3648, li9999, li10000, li32767, lm1, mjn_e]
        by_cases y : nI 400 < nI (i + 1)
        · rw [if_pos y]
        · rw [if_neg y, if_neg (nM_ne (by omega))]
    · obtain ⟨r, w', s', t', f1, f2, f3⟩ := ih (w3, s3, t3, tw_s_m tB (qM (tw_m tB))) ⟨e3, hB2, fun k h6 h8 => by rw [twg_m_m, e4 k h6 h8]; exact qM_congr hk h6 h8⟩
      refine ⟨r, w', s', t', ?_, ?_, f3⟩
      · rw [fX1_gone_L14]
        simp only [li0, li1, li2, li3, li4, li5, li6, li7, li8, li9, li10, li11, li12, li13, li14, li15, li16, li20, li24, li26, li30, li31, li32, li40, li41, li43, li48, li50, li52, li57, li59, li60, li62, li64, li65, li66, li67, li97, li99, li100, li122, li236, li239, li240, li255, li254, li256, li304, li400, li703, li704, li999, li1000000, li2000000000, li3344, li3648, li9999, li10000, li32767, lm1]
        rw [if_neg h4, hs.1.1.stones, if_neg q, e1, mob_sm, nI_add]
        exact f1
      · intro K
        rw [fX6_builtBy_L8]
        simp only [li0, li1, li2, li3, li4, li5, li6, li7, li8, li9, li10, li11, li12, li13, li14, li15, li16, li20, li24, li26, li30, li31, li32, li40, li41, li43, li48, li50, li52, li57, li59, li60, li62, li64, li65, li66, li67, li97, li99, li100, li122, li236, li239, li240, li255, li254, li256, li304, li400, li703, li704, li999, li1000000, li2000000000, li3344, li3648, li9999, li10000, li32767, lm1, mjn_e]
        rw [if_neg h4, if_pos trivial, if_pos trivial, hk 7 (by omega) (by omega), if_neg q, x_builds, mob_sm, nI_add]
        exact f2 K
theorem o_gone (h : Cp Sm us sh w im rd t) (sth : Wd) (ssc : Sc) : ∃ (r : Int32) (w' : Wd) (s' : Sc) (t6 : Tw), fX1_gone Sm sh w sth ssc = some (r, (w', s')) ∧ fX6_gone t = some (r, t6) ∧ tw_thrown t6 = nI 0 ∧ Cp Sm us sh w im rd t6 := by
  have h0 : Cp Sm us sh w im rd (tw_s_thrown t (nI 0)) := h
  have h00 : tw_thrown (tw_s_thrown t (nI 0)) = nI 0 := rfl
  obtain ⟨o, ho⟩ := likens_some sth w
  obtain ⟨r, w', s', t', e1, e2, e3⟩ := b_gone (sd0 h0 ho) sh ssc
  obtain ⟨t6, f1, f2, f3, -⟩ := x_cb e3
  have ea : fX6_putsAside (tw_s_thrown t (nI 0)) = some (asd (tw_s_thrown t (nI 0))) := x_putsAside _
  refine ⟨r, w', s', t6, ?_, ?_, f3.trans h00, h0.cf f2⟩
  · unfold fX1_gone
    simp only [li0, li1, li2, li3, li4, li5, li6, li7, li8, li9, li10, li11, li12, li13, li14, li15, li16, li20, li24, li26, li30, li31, li32, li40, li41, li43, li48, li50, li52, li57, li59, li60, li62, li64, li65, li66, li67, li97, li99, li100, li122, li236, li239, li240, li255, li254, li256, li304, li400, li703, li704, li999, li1000000, li2000000000, li3344, li3648, li9999, li10000, li32767, lm1]
    rw [ho, mob_sm, e1]
  · unfold fX6_gone fX6_builtBy
    simp only [li0, li1, li2, li3, li4, li5, li6, li7, li8, li9, li10, li11, li12, li13, li14, li15, li16, li20, li24, li26, li30, li31, li32, li40, li41, li43, li48, li50, li52, li57, li59, li60, li62, li64, li65, li66, li67, li97, li99, li100, li122, li236, li239, li240, li255, li254, li256, li304, li400, li703, li704, li999, li1000000, li2000000000, li3344, li3648, li9999, li10000, li32767, lm1, mlt_e, mjn_e]
    rw [ea, mob_sm, e2, f1, mob_sm, mo2_sm]
theorem b_stand {o w1 : Wd} {t1 : Tw} (h : SD Sm o t1 w1 t1) (sh : Kp) (ssc : Sc) {p : Int32} (hp : ¬ p = nI 0) : ∃ (r : Int32) (w' : Wd) (s' : Sc) (t' : Tw), fX1_stand_L25 p Sm sh mFU (nI 0) w1 ssc = some (.inr (r, (w', s'))) ∧ (∀ K : Int32 → Tw → Option (Int32 × Tw), fX6_builtBy_L8 K p mFU nM (nI 0) t1 = K r t') ∧ DF t1 t' := by
  obtain ⟨n0, hn0, hn1⟩ := mFU_99
  rw [hn0]
  refine lpU (fun n i (a : Wd × Sc × Tw × Tw) => ∃ (r : Int32) (w' : Wd) (s' : Sc) (t' : Tw), fX1_stand_L25 p Sm sh (n + 1) (nI i) a.1 a.2.1 = some (.inr (r, (w', s'))) ∧ (∀ K : Int32 → Tw → Option (Int32 × Tw), fX6_builtBy_L8 K p (n + 1) nM (nI i) a.2.2.2 = K r t') ∧ DF t1 t') (fun i a => SD Sm o t1 a.1 a.2.2.1 ∧ DF t1 a.2.2.2 ∧ ∀ k, 6 ≤ k → k ≤ 8 → tw_m a.2.2.2 k = tw_m a.2.2.1 k) 401 ?_ ?_ (n := n0) (by omega) (w1, ssc, t1, t1) ⟨h, DF.refl _, fun _ _ _ => rfl⟩
  · rintro n ⟨w2, s2, t2, tB⟩ hs
    have hs : SD Sm o t1 w2 t2 ∧ DF t1 tB ∧ ∀ k, 6 ≤ k → k ≤ 8 → tw_m tB k = tw_m t2 k := hs
    refine ⟨nM, w2, s2, tB, ?_, ?_, hs.2.1⟩
    · simp only [fX1_stand_L25, li0, li1, li2, li3, li4, li5, li6, li7, li8, li9, li10, li11, li12, li13, li14, li15, li16, li20, li24, li26, li30, li31, li32, li40, li41, li43, li48, li50, li52, li57, li59, li60, li62, li64, li65, li66, li67, li97, li99, li100, li122, li236, li239, li240, li255, li254, li256, li304, li400, li703, li704, li999, li1000000, li2000000000, li3344, li3648, li9999, li10000, li32767, lm1]
      rw [if_pos (by decide +kernel)]
    · intro K
      simp only [fX6_builtBy_L8, li0, li1, li2, li3, li4, li5, li6, li7, li8, li9, li10, li11, li12, li13, li14, li15, li16, li20, li24, li26, li30, li31, li32, li40, li41, li43, li48, li50, li52, li57, li59, li60, li62, li64, li65, li66, li67, li97, li99, li100, li122, li236, li239, li240, li255, li254, li256, li304, li400, li703, li704, li999, li1000000, li2000000000, li3344, li3648, li9999, li10000, li32767, lm1]
      rw [if_pos (by decide +kernel)]
  · rintro n i ⟨w2, s2, t2, tB⟩ hi hs ih
    have hs : SD Sm o t1 w2 t2 ∧ DF t1 tB ∧ ∀ k, 6 ≤ k → k ≤ 8 → tw_m tB k = tw_m t2 k := hs
    obtain ⟨hs, hB, hk⟩ := hs
    obtain ⟨w3, s3, t3, e1, -, e3, e4⟩ := d_one hs sh s2
    have hB2 : DF t1 (tw_s_m tB (qM (tw_m tB))) := hB.trans (DF.row tB fun k hk => qM_far hk)
    have h4 : ¬ nI 400 < nI i := fun q => absurd ((nI_ltI (by omega) (by omega)).mp q) (by omega)
    show ∃ (r : Int32) (w' : Wd) (s' : Sc) (t' : Tw), fX1_stand_L25 p Sm sh (n + 1 + 1) (nI i) w2 s2 = some (.inr (r, (w', s'))) ∧ (∀ K : Int32 → Tw → Option (Int32 × Tw), fX6_builtBy_L8 K p (n + 1 + 1) nM (nI i) tB = K r t') ∧ DF t1 t'
    by_cases q : tw_m t2 8 < p
    · obtain ⟨r, w', s', t', f1, f2, f3⟩ := ih (w3, s3, t3, tw_s_m tB (qM (tw_m tB))) ⟨e3, hB2, fun k h6 h8 => by rw [twg_m_m, e4 k h6 h8]; exact qM_congr hk h6 h8⟩
      refine ⟨r, w', s', t', ?_, ?_, f3⟩
      · rw [fX1_stand_L25]
        simp only [li0, li1, li2, li3, li4, li5, li6, li7, li8, li9, li10, li11, li12, li13, li14, li15, li16, li20, li24, li26, li30, li31, li32, li40, li41, li43, li48, li50, li52, li57, li59, li60, li62, li64, li65, li66, li67, li97, li99, li100, li122, li236, li239, li240, li255, li254, li256, li304, li400, li703, li704, li999, li1000000, li2000000000, li3344, li3648, li9999, li10000, li32767, lm1]
        rw [if_neg h4, hs.1.1.towers, if_pos q, e1, mob_sm, nI_add]
        exact f1
      · intro K
        rw [fX6_builtBy_L8]
        simp only [li0, li1, li2, li3, li4, li5, li6, li7, li8, li9, li10, li11, li12, li13, li14, li15, li16, li20, li24, li26, li30, li31, li32, li40, li41, li43, li48, li50, li52, li57, li59, li60, li62, li64, li65, li66, li67, li97, li99, li100, li122, li236, li239, li240, li255, li254, li256, li304, li400, li703, li704, li999, li1000000, li2000000000, li3344, li3648, li9999, li10000, li32767, lm1, mjn_e]
        rw [if_neg h4, if_pos trivial, if_neg hp, hk 8 (by omega) (by omega), if_pos q, x_builds, mob_sm, nI_add]
        exact f2 K
    · refine ⟨nI i, w2, s2, _, ?_, ?_, hB2⟩
      · rw [fX1_stand_L25]
        simp only [li0, li1, li2, li3, li4, li5, li6, li7, li8, li9, li10, li11, li12, li13, li14, li15, li16, li20, li24, li26, li30, li31, li32, li40, li41, li43, li48, li50, li52, li57, li59, li60, li62, li64, li65, li66, li67, li97, li99, li100, li122, li236, li239, li240, li255, li254, li256, li304, li400, li703, li704, li999, li1000000, li2000000000, li3344, li3648, li9999, li10000, li32767, lm1]
        rw [if_neg h4, hs.1.1.towers, if_neg q]
      · intro K
        rw [fX6_builtBy_L8]
        simp only [li0, li1, li2, li3, li4, li5, li6, li7, li8, li9, li10, li11, li12, li13, li14, li15, li16, li20, li24, li26, li30, li31, li32, li40, li41, li43, li48, li50, li52, li57, li59, li60, li62, li64, li65, li66, li67, li97, li99, li100, li122, li236, li239, li240, li255, li254, li256, li304, li400, li703, li704, li999, li1000000, li2000000000, li3344, li3648, li9999, li10000, li32767, lm1, mjn_e]
        rw [if_neg h4, if_pos trivial, if_neg hp, hk 8 (by omega) (by omega), if_neg q, x_builds, mob_sm, nI_add, fX6_builtBy_L8]
        simp only [li0, li1, li2, li3, li4, li5, li6, li7, li8, li9, li10, li11, li12, li13, li14, li15, li16, li20, li24, li26, li30, li31, li32, li40, li41, li43, li48, li50, li52, li57, li59, li60, li62, li64, li65, li66, li67, li97, li99, li100, li122, li236, li239, li240, li255, li254, li256, li304, li400, li703, li704, li999, li1000000, li2000000000, li3344, li3648, li9999, li10000, li32767, lm1, mjn_e]
        by_cases y : nI 400 < nI (i + 1)
        · rw [if_pos y]
        · rw [if_neg y, if_neg (nM_ne (by omega))]
theorem o_stand (h : Cp Sm us sh w im rd t) (sth : Wd) (ssc : Sc) (p : Int32) : QO cdA (fX1_stand Sm sh w sth ssc p) (fX6_stand t p) (Cp Sm us sh w im rd) := by
  unfold fX1_stand fX6_stand
  simp only [li0, li1, li2, li3, li4, li5, li6, li7, li8, li9, li10, li11, li12, li13, li14, li15, li16, li20, li24, li26, li30, li31, li32, li40, li41, li43, li48, li50, li52, li57, li59, li60, li62, li64, li65, li66, li67, li97, li99, li100, li122, li236, li239, li240, li255, li254, li256, li304, li400, li703, li704, li999, li1000000, li2000000000, li3344, li3648, li9999, li10000, li32767, lm1, mjn_e, mlt_e]
  rw [c_in', mob_sm, x_in, mob_sm]
  cases hr2 : rin p (nI 1) (nI 9999)
  · simp only [c_demand, Bool.false_eq_true, if_false, if_true, mox_r, mox_l, mob_sm, mo2_sm, bz_f, bz_t, twg_thrown_thrown, twg_thrown_m, t_le00, t_lt00, t_eq00, t_le10, t_lt10, t_eq10, t_le20, t_lt20, t_eq20, t_le30, t_lt30, t_eq30, t_lt01, t_lt02, t_lt03]
    exact QO.no cdA_A _ (by decide +kernel) h
  · obtain ⟨N, hN1, hN, rfl⟩ := rin_1 (by omega) hr2
    have h0 : Cp Sm us sh w im rd (tw_s_thrown t (nI 0)) := h
    have h00 : tw_thrown (tw_s_thrown t (nI 0)) = nI 0 := rfl
    obtain ⟨o, ho⟩ := likens_some sth w
    obtain ⟨r, w', s', t', e1, e2, e3⟩ := b_stand (sd0 h0 ho) sh ssc (p := nI N) (fun q => absurd ((nI_eq (by omega) (by omega)).mp q) (by omega))
    obtain ⟨t6, f1, f2, f3, -⟩ := x_cb e3
    have ea : fX6_putsAside (tw_s_thrown t (nI 0)) = some (asd (tw_s_thrown t (nI 0))) := x_putsAside _
    simp only [c_demand, Bool.false_eq_true, if_false, if_true, mox_r, mox_l, mob_sm, mo2_sm, bz_f, bz_t, twg_thrown_thrown, twg_thrown_m, t_le00, t_lt00, t_eq00, t_le10, t_lt10, t_eq10, t_le20, t_lt20, t_eq20, t_le30, t_lt30, t_eq30, t_lt01, t_lt02, t_lt03]
    unfold fX6_builtBy
    simp only [li0, li1, li2, li3, li4, li5, li6, li7, li8, li9, li10, li11, li12, li13, li14, li15, li16, li20, li24, li26, li30, li31, li32, li40, li41, li43, li48, li50, li52, li57, li59, li60, li62, li64, li65, li66, li67, li97, li99, li100, li122, li236, li239, li240, li255, li254, li256, li304, li400, li703, li704, li999, li1000000, li2000000000, li3344, li3648, li9999, li10000, li32767, lm1, mjn_e]
    rw [ho, mob_sm, e1, ea, mob_sm, e2, f1, mob_sm, mo2_sm]
    exact QO.ok _ _ (f3.trans h00) (h0.cf f2)
end AHEAD
