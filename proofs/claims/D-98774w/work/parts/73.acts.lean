/-! PURE LAWS: the acts -/
def AO {ρ : Type} (cd : String → Int32) (w : Wd) (t : Tw) (A : Option ((String × Wd) ⊕ (ρ × Wd))) (B : Option (ρ × Tw)) (G : Wd → Tw → Prop) : Prop :=
  (∃ (r : ρ) (w' : Wd) (t6 : Tw), A = some (.inr (r, w')) ∧ B = some (r, t6) ∧ tw_thrown t6 = nI 0 ∧ G w' t6) ∨ ∃ (E : String) (r : ρ), A = some (.inl (E, w)) ∧ ¬ cd E = nI 0 ∧ B = some (r, tw_s_thrown t (cd E))
theorem AO.no {ρ : Type} {cd : String → Int32} {w : Wd} {t : Tw} {G : Wd → Tw → Prop} {E : String} {k : Nat} (hc : cd E = nI k) (r : ρ) (h2 : ¬ nI k = nI 0) : AO cd w t (some (.inl (E, w))) (some (r, tw_s_thrown t (nI k))) G := Or.inr ⟨E, r, rfl, by rw [hc]; exact h2, by rw [hc]⟩
def GA (Sm : zSem) (us : List Wd) (sh : Kp) (w im : Wd) (rd : Rd) : Wd → Tw → Prop := fun w' t6 => ∀ u0 ou : Wd, fX2_likens u0 w = some ou → Cp Sm (puW us ou) sh w' im rd t6
section ACTS
variable {Sm : zSem} {us : List Wd} {sh : Kp} {w im : Wd} {rd : Rd} {t : Tw}
theorem actU (h : Cp Sm us sh w im rd t) {p : Nat} (hp : p < 304) (h1 : ¬ 1 = p) (h2 : ¬ 2 = p) {x : Int32} (hx : ∀ n, rng p = some n → isN x n) {w' : Wd} (hw : RW w' (upd (tw_m t) p x)) (hl : wd_law w' = wd_law w) : ∃ T' : Tw, fX6_sets (tw_s_thrown t (nI 0)) (nI p) x = some (tw_m t p, T') ∧ tw_thrown T' = nI 0 ∧ tw_m T' = upd (tw_m t) p x ∧ GA Sm us sh w im rd w' T' :=
  ⟨_, x_sets (tw_s_thrown t (nI 0)) h.2.2.2.2.1 h.2.2.2.2.2.1 (by omega) x, rfl, rfl, fun _ _ hl9 => (Cp.thrown h (nI 0)).act hl9 hw (h.1.2.1.upd p x hx) hl (upd_n h1) (upd_n h2) (fun k a _ => upd_n (by omega))⟩
theorem a_go (h : Cp Sm us sh w im rd t) (p q : Int32) : AO cdI w t (fX1_go sh w p q) (fX6_go t p q) (GA Sm us sh w im rd) := by
  have hW := h.1.1
  have hI := h.1.2.1
  have hG := hI.G
  unfold fX1_go fX6_go
  simp only [li0, li1, li2, li3, li4, li5, li6, li7, li8, li9, li10, li11, li12, li13, li14, li15, li16, li20, li24, li26, li30, li31, li32, li40, li41, li43, li48, li50, li52, li57, li59, li60, li62, li64, li65, li66, li67, li97, li99, li100, li122, li236, li239, li240, li255, li254, li256, li304, li400, li703, li704, li999, li1000000, li2000000000, li3344, li3648, li9999, li10000, li32767, lm1, mjn_e, mlt_e]
  rw [c_guestAt hW, x_isGuest, mob_sm]
  cases hr : rin p (nI 0) (tw_m t 3 - nI 1)
  · simp only [Bool.false_eq_true, if_false, if_true, mox_r, mox_l, mob_sm, mo2_sm, bz_f, bz_t, twg_thrown_thrown, twg_thrown_m, t_le00, t_lt00, t_eq00, t_le10, t_lt10, t_eq10, t_le20, t_lt20, t_eq20, t_le30, t_lt30, t_eq30, t_lt01, t_lt02, t_lt03]
    exact AO.no cdI_I _ (by decide +kernel)
  · obtain ⟨g, hg, rfl⟩ := rin_G hI hr
    rw [c_roomAt, x_isRoom, mob_sm]
    cases hr2 : rin q (nI 0) (nI 7)
    · simp only [Bool.false_eq_true, if_false, if_true, mox_r, mox_l, mob_sm, mo2_sm, bz_f, bz_t, twg_thrown_thrown, twg_thrown_m, t_le00, t_lt00, t_eq00, t_le10, t_lt10, t_eq10, t_le20, t_lt20, t_eq20, t_le30, t_lt30, t_eq30, t_lt01, t_lt02, t_lt03]
      exact AO.no cdI_I _ (by decide +kernel)
    · obtain ⟨r, hr7, rfl⟩ := rin_N (by omega) hr2
      obtain ⟨T', e1, e2, -, e4⟩ := actU h (p := 24 + 5 * g + 0) (by omega) (by omega) (by omega) (x := nI r) (fun n hn => by rw [rng_g0 g (by omega)] at hn; cases hn; exact isN_n hr7) (hW.up_room (by omega) (nI r)) rfl
      simp only [Bool.false_eq_true, if_false, if_true, mox_r, mox_l, mob_sm, mo2_sm, bz_f, bz_t, twg_thrown_thrown, twg_thrown_m, t_le00, t_lt00, t_eq00, t_le10, t_lt10, t_eq10, t_le20, t_lt20, t_eq20, t_le30, t_lt30, t_eq30, t_lt01, t_lt02, t_lt03]
      rw [ix_of, e1, mckN _ (by omega) (by omega), mckN _ (by omega) (by omega), clN (by omega), hW.room (by omega)]
      exact Or.inl ⟨_, _, _, rfl, rfl, e2, e4⟩
theorem a_come (h : Cp Sm us sh w im rd t) (p : Int32) (b : Bool) : AO cdI w t (fX1_come sh w p b) (fX6_come t p b) (GA Sm us sh w im rd) := by
  have hW := h.1.1
  have hI := h.1.2.1
  have hG := hI.G
  unfold fX1_come fX6_come
  simp only [li0, li1, li2, li3, li4, li5, li6, li7, li8, li9, li10, li11, li12, li13, li14, li15, li16, li20, li24, li26, li30, li31, li32, li40, li41, li43, li48, li50, li52, li57, li59, li60, li62, li64, li65, li66, li67, li97, li99, li100, li122, li236, li239, li240, li255, li254, li256, li304, li400, li703, li704, li999, li1000000, li2000000000, li3344, li3648, li9999, li10000, li32767, lm1, mjn_e, mlt_e]
  rw [c_guestAt hW, x_isGuest, mob_sm]
  cases hr : rin p (nI 0) (tw_m t 3 - nI 1)
  · simp only [Bool.false_eq_true, if_false, if_true, mox_r, mox_l, mob_sm, mo2_sm, bz_f, bz_t, twg_thrown_thrown, twg_thrown_m, t_le00, t_lt00, t_eq00, t_le10, t_lt10, t_eq10, t_le20, t_lt20, t_eq20, t_le30, t_lt30, t_eq30, t_lt01, t_lt02, t_lt03]
    exact AO.no cdI_I _ (by decide +kernel)
  · obtain ⟨g, hg, rfl⟩ := rin_G hI hr
    obtain ⟨T', e1, e2, -, e4⟩ := actU h (p := 24 + 5 * g + 4) (by omega) (by omega) (by omega) (x := bz b) (fun n hn => by rw [rng_g4 g (by omega)] at hn; cases hn; exact isN_bz b) (hW.up_here (by omega) b) rfl
    simp only [Bool.false_eq_true, if_false, if_true, mox_r, mox_l, mob_sm, mo2_sm, bz_f, bz_t, twg_thrown_thrown, twg_thrown_m, t_le00, t_lt00, t_eq00, t_le10, t_lt10, t_eq10, t_le20, t_lt20, t_eq20, t_le30, t_lt30, t_eq30, t_lt01, t_lt02, t_lt03]
    rw [mckN _ (by omega) (by omega), mckN _ (by omega) (by omega), clN (by omega), hW.herez (by omega)]
    cases b
    · rw [bz_f] at e1
      simp only [Bool.false_eq_true, if_false, if_true, mox_r, mox_l, mob_sm, mo2_sm, bz_f, bz_t, twg_thrown_thrown, twg_thrown_m, t_le00, t_lt00, t_eq00, t_le10, t_lt10, t_eq10, t_le20, t_lt20, t_eq20, t_le30, t_lt30, t_eq30, t_lt01, t_lt02, t_lt03]
      rw [ix_of, e1]
      simp only [Bool.false_eq_true, if_false, if_true, mox_r, mox_l, mob_sm, mo2_sm, bz_f, bz_t, twg_thrown_thrown, twg_thrown_m, t_le00, t_lt00, t_eq00, t_le10, t_lt10, t_eq10, t_le20, t_lt20, t_eq20, t_le30, t_lt30, t_eq30, t_lt01, t_lt02, t_lt03]
      by_cases q : tw_m t (24 + 5 * g + 4) = nI 0
      · rw [if_pos q, if_pos q]; exact Or.inl ⟨_, _, _, rfl, rfl, e2, e4⟩
      · rw [if_neg q, if_neg q]; exact Or.inl ⟨_, _, _, rfl, rfl, e2, e4⟩
    · rw [bz_t] at e1
      simp only [Bool.false_eq_true, if_false, if_true, mox_r, mox_l, mob_sm, mo2_sm, bz_f, bz_t, twg_thrown_thrown, twg_thrown_m, t_le00, t_lt00, t_eq00, t_le10, t_lt10, t_eq10, t_le20, t_lt20, t_eq20, t_le30, t_lt30, t_eq30, t_lt01, t_lt02, t_lt03]
      rw [ix_of, e1]
      simp only [Bool.false_eq_true, if_false, if_true, mox_r, mox_l, mob_sm, mo2_sm, bz_f, bz_t, twg_thrown_thrown, twg_thrown_m, t_le00, t_lt00, t_eq00, t_le10, t_lt10, t_eq10, t_le20, t_lt20, t_eq20, t_le30, t_lt30, t_eq30, t_lt01, t_lt02, t_lt03]
      by_cases q : tw_m t (24 + 5 * g + 4) = nI 1
      · rw [if_pos q, if_pos q]; exact Or.inl ⟨_, _, _, rfl, rfl, e2, e4⟩
      · rw [if_neg q, if_neg q]; exact Or.inl ⟨_, _, _, rfl, rfl, e2, e4⟩
theorem a_key (h : Cp Sm us sh w im rd t) (p : Int32) (b : Bool) : AO cdI w t (fX1_key sh w p b) (fX6_key t p b) (GA Sm us sh w im rd) := by
  have hW := h.1.1
  have hI := h.1.2.1
  have hG := hI.G
  unfold fX1_key fX6_key
  simp only [li0, li1, li2, li3, li4, li5, li6, li7, li8, li9, li10, li11, li12, li13, li14, li15, li16, li20, li24, li26, li30, li31, li32, li40, li41, li43, li48, li50, li52, li57, li59, li60, li62, li64, li65, li66, li67, li97, li99, li100, li122, li236, li239, li240, li255, li254, li256, li304, li400, li703, li704, li999, li1000000, li2000000000, li3344, li3648, li9999, li10000, li32767, lm1, mjn_e, mlt_e]
  rw [c_guestAt hW, x_isGuest, mob_sm]
  cases hr : rin p (nI 0) (tw_m t 3 - nI 1)
  · simp only [Bool.false_eq_true, if_false, if_true, mox_r, mox_l, mob_sm, mo2_sm, bz_f, bz_t, twg_thrown_thrown, twg_thrown_m, t_le00, t_lt00, t_eq00, t_le10, t_lt10, t_eq10, t_le20, t_lt20, t_eq20, t_le30, t_lt30, t_eq30, t_lt01, t_lt02, t_lt03]
    exact AO.no cdI_I _ (by decide +kernel)
  · obtain ⟨g, hg, rfl⟩ := rin_G hI hr
    obtain ⟨T', e1, e2, -, e4⟩ := actU h (p := 24 + 5 * g + 3) (by omega) (by omega) (by omega) (x := bz b) (fun n hn => by rw [rng_g3 g (by omega)] at hn; cases hn; exact isN_bz b) (hW.up_key (by omega) b) rfl
    simp only [Bool.false_eq_true, if_false, if_true, mox_r, mox_l, mob_sm, mo2_sm, bz_f, bz_t, twg_thrown_thrown, twg_thrown_m, t_le00, t_lt00, t_eq00, t_le10, t_lt10, t_eq10, t_le20, t_lt20, t_eq20, t_le30, t_lt30, t_eq30, t_lt01, t_lt02, t_lt03]
    rw [mckN _ (by omega) (by omega), mckN _ (by omega) (by omega), clN (by omega), hW.keyz (by omega)]
    cases b
    · rw [bz_f] at e1
      simp only [Bool.false_eq_true, if_false, if_true, mox_r, mox_l, mob_sm, mo2_sm, bz_f, bz_t, twg_thrown_thrown, twg_thrown_m, t_le00, t_lt00, t_eq00, t_le10, t_lt10, t_eq10, t_le20, t_lt20, t_eq20, t_le30, t_lt30, t_eq30, t_lt01, t_lt02, t_lt03]
      rw [ix_of, e1]
      simp only [Bool.false_eq_true, if_false, if_true, mox_r, mox_l, mob_sm, mo2_sm, bz_f, bz_t, twg_thrown_thrown, twg_thrown_m, t_le00, t_lt00, t_eq00, t_le10, t_lt10, t_eq10, t_le20, t_lt20, t_eq20, t_le30, t_lt30, t_eq30, t_lt01, t_lt02, t_lt03]
      by_cases q : tw_m t (24 + 5 * g + 3) = nI 0
      · rw [if_pos q, if_pos q]; exact Or.inl ⟨_, _, _, rfl, rfl, e2, e4⟩
      · rw [if_neg q, if_neg q]; exact Or.inl ⟨_, _, _, rfl, rfl, e2, e4⟩
    · rw [bz_t] at e1
      simp only [Bool.false_eq_true, if_false, if_true, mox_r, mox_l, mob_sm, mo2_sm, bz_f, bz_t, twg_thrown_thrown, twg_thrown_m, t_le00, t_lt00, t_eq00, t_le10, t_lt10, t_eq10, t_le20, t_lt20, t_eq20, t_le30, t_lt30, t_eq30, t_lt01, t_lt02, t_lt03]
      rw [ix_of, e1]
      simp only [Bool.false_eq_true, if_false, if_true, mox_r, mox_l, mob_sm, mo2_sm, bz_f, bz_t, twg_thrown_thrown, twg_thrown_m, t_le00, t_lt00, t_eq00, t_le10, t_lt10, t_eq10, t_le20, t_lt20, t_eq20, t_le30, t_lt30, t_eq30, t_lt01, t_lt02, t_lt03]
      by_cases q : tw_m t (24 + 5 * g + 3) = nI 1
      · rw [if_pos q, if_pos q]; exact Or.inl ⟨_, _, _, rfl, rfl, e2, e4⟩
      · rw [if_neg q, if_neg q]; exact Or.inl ⟨_, _, _, rfl, rfl, e2, e4⟩
theorem a_bath (h : Cp Sm us sh w im rd t) (p : Int32) : AO cdI w t (fX1_bath sh w p) (fX6_bath t p) (GA Sm us sh w im rd) := by
  have hW := h.1.1
  unfold fX1_bath fX6_bath
  simp only [li0, li1, li2, li3, li4, li5, li6, li7, li8, li9, li10, li11, li12, li13, li14, li15, li16, li20, li24, li26, li30, li31, li32, li40, li41, li43, li48, li50, li52, li57, li59, li60, li62, li64, li65, li66, li67, li97, li99, li100, li122, li236, li239, li240, li255, li254, li256, li304, li400, li703, li704, li999, li1000000, li2000000000, li3344, li3648, li9999, li10000, li32767, lm1, mjn_e, mlt_e]
  rw [c_roomAt, x_isRoom, mob_sm]
  cases hr : rin p (nI 0) (nI 7)
  · simp only [Bool.false_eq_true, if_false, if_true, mox_r, mox_l, mob_sm, mo2_sm, bz_f, bz_t, twg_thrown_thrown, twg_thrown_m, t_le00, t_lt00, t_eq00, t_le10, t_lt10, t_eq10, t_le20, t_lt20, t_eq20, t_le30, t_lt30, t_eq30, t_lt01, t_lt02, t_lt03]
    exact AO.no cdI_I _ (by decide +kernel)
  · obtain ⟨r, hr7, rfl⟩ := rin_N (by omega) hr
    obtain ⟨T', e1, e2, -, e4⟩ := actU h (p := 4) (by omega) (by omega) (by omega) (x := nI r) (fun n hn => by cases hn; exact isN_n hr7) (hW.up_bath (nI r)) rfl
    simp only [Bool.false_eq_true, if_false, if_true, mox_r, mox_l, mob_sm, mo2_sm, bz_f, bz_t, twg_thrown_thrown, twg_thrown_m, t_le00, t_lt00, t_eq00, t_le10, t_lt10, t_eq10, t_le20, t_lt20, t_eq20, t_le30, t_lt30, t_eq30, t_lt01, t_lt02, t_lt03]
    rw [e1, hW.bath]
    exact Or.inl ⟨_, _, _, rfl, rfl, e2, e4⟩
theorem a_keep (h : Cp Sm us sh w im rd t) (p : Int32) : AO cdI w t (fX1_keep sh w p) (fX6_keep t p) (GA Sm us sh w im rd) := by
  have hW := h.1.1
  unfold fX1_keep fX6_keep
  simp only [li0, li1, li2, li3, li4, li5, li6, li7, li8, li9, li10, li11, li12, li13, li14, li15, li16, li20, li24, li26, li30, li31, li32, li40, li41, li43, li48, li50, li52, li57, li59, li60, li62, li64, li65, li66, li67, li97, li99, li100, li122, li236, li239, li240, li255, li254, li256, li304, li400, li703, li704, li999, li1000000, li2000000000, li3344, li3648, li9999, li10000, li32767, lm1, mjn_e, mlt_e]
  rw [c_calendarAt, x_in, mob_sm]
  cases hr : rin p (nI 0) (nI 1)
  · simp only [Bool.false_eq_true, if_false, if_true, mox_r, mox_l, mob_sm, mo2_sm, bz_f, bz_t, twg_thrown_thrown, twg_thrown_m, t_le00, t_lt00, t_eq00, t_le10, t_lt10, t_eq10, t_le20, t_lt20, t_eq20, t_le30, t_lt30, t_eq30, t_lt01, t_lt02, t_lt03]
    exact AO.no cdI_I _ (by decide +kernel)
  · obtain ⟨r, hr7, rfl⟩ := rin_N (by omega) hr
    obtain ⟨T', e1, e2, -, e4⟩ := actU h (p := 5) (by omega) (by omega) (by omega) (x := nI r) (fun n hn => by cases hn; exact isN_n hr7) (hW.up_kept (nI r)) rfl
    simp only [Bool.false_eq_true, if_false, if_true, mox_r, mox_l, mob_sm, mo2_sm, bz_f, bz_t, twg_thrown_thrown, twg_thrown_m, t_le00, t_lt00, t_eq00, t_le10, t_lt10, t_eq10, t_le20, t_lt20, t_eq20, t_le30, t_lt30, t_eq30, t_lt01, t_lt02, t_lt03]
    rw [e1, hW.kept]
    exact Or.inl ⟨_, _, _, rfl, rfl, e2, e4⟩
theorem a_masons (h : Cp Sm us sh w im rd t) (p : Int32) : AO cdA w t (fX1_masons sh w p) (fX6_masons t p) (GA Sm us sh w im rd) := by
  have hW := h.1.1
  unfold fX1_masons fX6_masons
  simp only [li0, li1, li2, li3, li4, li5, li6, li7, li8, li9, li10, li11, li12, li13, li14, li15, li16, li20, li24, li26, li30, li31, li32, li40, li41, li43, li48, li50, li52, li57, li59, li60, li62, li64, li65, li66, li67, li97, li99, li100, li122, li236, li239, li240, li255, li254, li256, li304, li400, li703, li704, li999, li1000000, li2000000000, li3344, li3648, li9999, li10000, li32767, lm1, mjn_e, mlt_e]
  rw [c_in', x_in, mob_sm, mob_sm, c_demand]
  cases hr : rin p (nI 0) (nI 9)
  · simp only [Bool.false_eq_true, if_false, if_true, mox_r, mox_l, mob_sm, mo2_sm, bz_f, bz_t, twg_thrown_thrown, twg_thrown_m, t_le00, t_lt00, t_eq00, t_le10, t_lt10, t_eq10, t_le20, t_lt20, t_eq20, t_le30, t_lt30, t_eq30, t_lt01, t_lt02, t_lt03]
    exact AO.no cdA_A _ (by decide +kernel)
  · obtain ⟨r, hr7, rfl⟩ := rin_N (by omega) hr
    obtain ⟨T', e1, e2, -, e4⟩ := actU h (p := 6) (by omega) (by omega) (by omega) (x := nI r) (fun n hn => by cases hn; exact isN_n hr7) (hW.up_masons (nI r)) rfl
    simp only [Bool.false_eq_true, if_false, if_true, mox_r, mox_l, mob_sm, mo2_sm, bz_f, bz_t, twg_thrown_thrown, twg_thrown_m, t_le00, t_lt00, t_eq00, t_le10, t_lt10, t_eq10, t_le20, t_lt20, t_eq20, t_le30, t_lt30, t_eq30, t_lt01, t_lt02, t_lt03]
    rw [e1, hW.masons]
    exact Or.inl ⟨_, _, _, rfl, rfl, e2, e4⟩
theorem a_buy (h : Cp Sm us sh w im rd t) (p : Int32) : AO cdA w t (fX1_buy sh w p) (fX6_buy t p) (GA Sm us sh w im rd) := by
  have hW := h.1.1
  have hI := h.1.2.1
  unfold fX1_buy fX6_buy fX6_lesser
  simp only [li0, li1, li2, li3, li4, li5, li6, li7, li8, li9, li10, li11, li12, li13, li14, li15, li16, li20, li24, li26, li30, li31, li32, li40, li41, li43, li48, li50, li52, li57, li59, li60, li62, li64, li65, li66, li67, li97, li99, li100, li122, li236, li239, li240, li255, li254, li256, li304, li400, li703, li704, li999, li1000000, li2000000000, li3344, li3648, li9999, li10000, li32767, lm1, mjn_e, mlt_e]
  rw [c_in', x_in, mob_sm, mob_sm, c_demand]
  cases hr : rin p (nI 1) (nI 999)
  · simp only [Bool.false_eq_true, if_false, if_true, mox_r, mox_l, mob_sm, mo2_sm, bz_f, bz_t, twg_thrown_thrown, twg_thrown_m, t_le00, t_lt00, t_eq00, t_le10, t_lt10, t_eq10, t_le20, t_lt20, t_eq20, t_le30, t_lt30, t_eq30, t_lt01, t_lt02, t_lt03]
    exact AO.no cdA_A _ (by decide +kernel)
  · obtain ⟨r, hr1, hr7, rfl⟩ := rin_1 (by omega) hr
    obtain ⟨k, hk, ek⟩ := hI 7 9999 rfl
    have ex : (if tw_m t 7 + nI r ≤ nI 9999 then some (tw_m t 7 + nI r) else some (nI 9999)) = some (zmn (nI 9999) (tw_m t 7 + nI r)) := by
      rw [zmn_e]
      split <;> rfl
    have ez : zmn (nI 9999) (tw_m t 7 + nI r) = nI (min 9999 (k + r)) := by
      rw [ek, nI_add, zmnN (by omega) (by omega)]
    obtain ⟨T', e1, e2, e3, e4⟩ := actU h (p := 7) (by omega) (by omega) (by omega) (x := nI (min 9999 (k + r))) (fun n hn => by cases hn; exact isN_n (by omega)) (hW.up_stones _) rfl
    simp only [Bool.false_eq_true, if_false, if_true, mox_r, mox_l, mob_sm, mo2_sm, bz_f, bz_t, twg_thrown_thrown, twg_thrown_m, t_le00, t_lt00, t_eq00, t_le10, t_lt10, t_eq10, t_le20, t_lt20, t_eq20, t_le30, t_lt30, t_eq30, t_lt01, t_lt02, t_lt03]
    rw [ex, mob_sm, hW.stones, ez, e1]
    simp only [Bool.false_eq_true, if_false, if_true, mox_r, mox_l, mob_sm, mo2_sm, bz_f, bz_t, twg_thrown_thrown, twg_thrown_m, t_le00, t_lt00, t_eq00, t_le10, t_lt10, t_eq10, t_le20, t_lt20, t_eq20, t_le30, t_lt30, t_eq30, t_lt01, t_lt02, t_lt03]
    rw [e3, upd_s]
    exact Or.inl ⟨_, _, _, rfl, rfl, e2, e4⟩
theorem a_calm (h : Cp Sm us sh w im rd t) (p : Int32) : AO cdI w t (fX1_calm sh w p) (fX6_calm t p) (GA Sm us sh w im rd) := by
  have hW := h.1.1
  have hI := h.1.2.1
  have hG := hI.G
  unfold fX1_calm fX6_calm
  simp only [li0, li1, li2, li3, li4, li5, li6, li7, li8, li9, li10, li11, li12, li13, li14, li15, li16, li20, li24, li26, li30, li31, li32, li40, li41, li43, li48, li50, li52, li57, li59, li60, li62, li64, li65, li66, li67, li97, li99, li100, li122, li236, li239, li240, li255, li254, li256, li304, li400, li703, li704, li999, li1000000, li2000000000, li3344, li3648, li9999, li10000, li32767, lm1, mjn_e, mlt_e]
  rw [c_guestAt hW, x_isGuest, mob_sm]
  cases hr : rin p (nI 0) (tw_m t 3 - nI 1)
  · simp only [Bool.false_eq_true, if_false, if_true, mox_r, mox_l, mob_sm, mo2_sm, bz_f, bz_t, twg_thrown_thrown, twg_thrown_m, t_le00, t_lt00, t_eq00, t_le10, t_lt10, t_eq10, t_le20, t_lt20, t_eq20, t_le30, t_lt30, t_eq30, t_lt01, t_lt02, t_lt03]
    exact AO.no cdI_I _ (by decide +kernel)
  · obtain ⟨g, hg, rfl⟩ := rin_G hI hr
    obtain ⟨k, hk, ek⟩ := hI.doubt (show g < 8 by omega)
    have hd : isN (tw_m t (24 + 5 * g + 2) / nI 2) 99 := by
      rw [ek, divN (by omega) (by omega) (by omega)]
      exact isN_n (by omega)
    obtain ⟨T', e1, e2, e3, e4⟩ := actU h (p := 24 + 5 * g + 2) (by omega) (by omega) (by omega) (x := tw_m t (24 + 5 * g + 2) / nI 2) (fun n hn => by rw [rng_g2 g (by omega)] at hn; cases hn; exact hd) (hW.up_doubt (by omega) _) rfl
    simp only [Bool.false_eq_true, if_false, if_true, mox_r, mox_l, mob_sm, mo2_sm, bz_f, bz_t, twg_thrown_thrown, twg_thrown_m, t_le00, t_lt00, t_eq00, t_le10, t_lt10, t_eq10, t_le20, t_lt20, t_eq20, t_le30, t_lt30, t_eq30, t_lt01, t_lt02, t_lt03]
    rw [x_of _ (by omega) (by omega), mob_sm, ix_of]
    show AO cdI w t _ (mo2 (fX6_sets (tw_s_thrown t (nI 0)) (nI (24 + 5 * g + 2)) (tw_m t (24 + 5 * g + 2) / nI 2)) _) _
    rw [e1]
    simp only [Bool.false_eq_true, if_false, if_true, mox_r, mox_l, mob_sm, mo2_sm, bz_f, bz_t, twg_thrown_thrown, twg_thrown_m, t_le00, t_lt00, t_eq00, t_le10, t_lt10, t_eq10, t_le20, t_lt20, t_eq20, t_le30, t_lt30, t_eq30, t_lt01, t_lt02, t_lt03]
    rw [x_of _ (by omega) (by omega), mob_sm, e3, mckN _ (by omega) (by omega), mckN _ (by omega) (by omega), mckN _ (by omega) (by omega), clN (by omega), hW.doubt (by omega), upd_s]
    refine Or.inl ⟨_, _, _, ?_, rfl, e2, e4⟩
    show some (Sum.inr (upd _ g _ g, _)) = _
    rw [upd_s]
theorem a_hole (h : Cp Sm us sh w im rd t) (p q : Int32) (b : Bool) : AO cdIA w t (fX1_hole sh w p q b) (fX6_hole t p q b) (GA Sm us sh w im rd) := by
  have hW := h.1.1
  have hI := h.1.2.1
  unfold fX1_hole fX6_hole
  simp only [li0, li1, li2, li3, li4, li5, li6, li7, li8, li9, li10, li11, li12, li13, li14, li15, li16, li20, li24, li26, li30, li31, li32, li40, li41, li43, li48, li50, li52, li57, li59, li60, li62, li64, li65, li66, li67, li97, li99, li100, li122, li236, li239, li240, li255, li254, li256, li304, li400, li703, li704, li999, li1000000, li2000000000, li3344, li3648, li9999, li10000, li32767, lm1, mjn_e, mlt_e]
  rw [c_roomAt, x_isRoom, mob_sm]
  cases hr : rin p (nI 0) (nI 7)
  · simp only [Bool.false_eq_true, if_false, if_true, mox_r, mox_l, mob_sm, mo2_sm, bz_f, bz_t, twg_thrown_thrown, twg_thrown_m, t_le00, t_lt00, t_eq00, t_le10, t_lt10, t_eq10, t_le20, t_lt20, t_eq20, t_le30, t_lt30, t_eq30, t_lt01, t_lt02, t_lt03]
    exact AO.no cdIA_I _ (by decide +kernel)
  · obtain ⟨r, hr7, rfl⟩ := rin_N (by omega) hr
    rw [c_roomAt, x_isRoom, mob_sm]
    cases hr2 : rin q (nI 0) (nI 7)
    · simp only [Bool.false_eq_true, if_false, if_true, mox_r, mox_l, mob_sm, mo2_sm, bz_f, bz_t, twg_thrown_thrown, twg_thrown_m, t_le00, t_lt00, t_eq00, t_le10, t_lt10, t_eq10, t_le20, t_lt20, t_eq20, t_le30, t_lt30, t_eq30, t_lt01, t_lt02, t_lt03]
      exact AO.no cdIA_I _ (by decide +kernel)
    · obtain ⟨o, ho7, rfl⟩ := rin_N (by omega) hr2
      by_cases hro : nI r = nI o
      · simp only [Bool.false_eq_true, if_false, if_true, mox_r, mox_l, mob_sm, mo2_sm, bz_f, bz_t, twg_thrown_thrown, twg_thrown_m, t_le00, t_lt00, t_eq00, t_le10, t_lt10, t_eq10, t_le20, t_lt20, t_eq20, t_le30, t_lt30, t_eq30, t_lt01, t_lt02, t_lt03]
        rw [if_pos hro, if_pos hro, c_demand]
        simp only [Bool.false_eq_true, if_false, if_true, mox_r, mox_l, mob_sm, mo2_sm, bz_f, bz_t, twg_thrown_thrown, twg_thrown_m, t_le00, t_lt00, t_eq00, t_le10, t_lt10, t_eq10, t_le20, t_lt20, t_eq20, t_le30, t_lt30, t_eq30, t_lt01, t_lt02, t_lt03]
        exact AO.no cdIA_A _ (by decide +kernel)
      · simp only [Bool.false_eq_true, if_false, if_true, mox_r, mox_l, mob_sm, mo2_sm, bz_f, bz_t, twg_thrown_thrown, twg_thrown_m, t_le00, t_lt00, t_eq00, t_le10, t_lt10, t_eq10, t_le20, t_lt20, t_eq20, t_le30, t_lt30, t_eq30, t_lt01, t_lt02, t_lt03]
        rw [if_neg hro, if_neg hro, c_demand]
        simp only [Bool.false_eq_true, if_false, if_true, mox_r, mox_l, mob_sm, mo2_sm, bz_f, bz_t, twg_thrown_thrown, twg_thrown_m, t_le00, t_lt00, t_eq00, t_le10, t_lt10, t_eq10, t_le20, t_lt20, t_eq20, t_le30, t_lt30, t_eq30, t_lt01, t_lt02, t_lt03]
        have h8 : ∀ i, 8 ≤ i → bt (tw_m t (16 + r)) i = false := fun i hi => bt_hi (n := 8) (hI.holes (show r < 8 by omega)) (by omega) hi
        have hb : ∀ i, bt (nI 1 <<< (nI o &&& nI 31)) i = decide (o = i) := fun i => bt_one (n := o) (by omega)
        have hx1 : isN (tw_m t (16 + r) ||| (nI 1 <<< (nI o &&& nI 31))) 255 := isN_bits (n := 8) (by omega) fun i _ hi => by rw [b_or, h8 i hi, hb, decide_eq_false (by omega)]; rfl
        have hx2 : ∀ y : Int32, isN (tw_m t (16 + r) &&& y) 255 := fun y => isN_bits (n := 8) (by omega) fun i _ hi => by rw [b_and, h8 i hi]; rfl
        have hm : ∀ {α : Type} (K : Option α), mck (nI r) 8 K = K := fun K => mckN K (by omega) (by omega)
        have hm2 : ∀ {α : Type} (K : Option α), mck (nI (16 + r)) 704 K = K := fun K => mckN K (by omega) (by omega)
        have hc1 : Int32.toNatClampNeg (nI r) = r := clN (by omega)
        have hc2 : Int32.toNatClampNeg (nI (16 + r)) = 16 + r := clN (by omega)
        simp only [hm, hm2, nI_add, hc1, hc2]
        rw [x_isHole _ (by omega) (by omega), mob_sm, hW.holes (by omega), c_has _ (by omega), mob_sm]
        simp only [Bool.false_eq_true, if_false, if_true, mox_r, mox_l, mob_sm, mo2_sm, bz_f, bz_t, twg_thrown_thrown, twg_thrown_m, t_le00, t_lt00, t_eq00, t_le10, t_lt10, t_eq10, t_le20, t_lt20, t_eq20, t_le30, t_lt30, t_eq30, t_lt01, t_lt02, t_lt03]
        cases b
        · obtain ⟨T', e1, e2, -, e4⟩ := actU h (p := 16 + r) (by omega) (by omega) (by omega) (x := (tw_m t (16 + r) &&& ((nI 1 <<< (nI o &&& nI 31)) ^^^ nM))) (fun n hn => by rw [rng_h r (by omega)] at hn; cases hn; exact hx2 _) (hW.up_holes (by omega) (tw_m t (16 + r) &&& ((nI 1 <<< (nI o &&& nI 31)) ^^^ nM))) rfl
          simp only [Bool.false_eq_true, if_false, if_true, mox_r, mox_l, mob_sm, mo2_sm, bz_f, bz_t, twg_thrown_thrown, twg_thrown_m, t_le00, t_lt00, t_eq00, t_le10, t_lt10, t_eq10, t_le20, t_lt20, t_eq20, t_le30, t_lt30, t_eq30, t_lt01, t_lt02, t_lt03]
          rw [e1]
          simp only [Bool.false_eq_true, if_false, if_true, mox_r, mox_l, mob_sm, mo2_sm, bz_f, bz_t, twg_thrown_thrown, twg_thrown_m, t_le00, t_lt00, t_eq00, t_le10, t_lt10, t_eq10, t_le20, t_lt20, t_eq20, t_le30, t_lt30, t_eq30, t_lt01, t_lt02, t_lt03]
          by_cases z : bz (bt (tw_m t (16 + r)) o) = nI 0
          · rw [if_pos z, if_pos z]; exact Or.inl ⟨_, _, _, rfl, rfl, e2, e4⟩
          · rw [if_neg z, if_neg z]; exact Or.inl ⟨_, _, _, rfl, rfl, e2, e4⟩
        · obtain ⟨T', e1, e2, -, e4⟩ := actU h (p := 16 + r) (by omega) (by omega) (by omega) (x := (tw_m t (16 + r) ||| (nI 1 <<< (nI o &&& nI 31)))) (fun n hn => by rw [rng_h r (by omega)] at hn; cases hn; exact hx1) (hW.up_holes (by omega) (tw_m t (16 + r) ||| (nI 1 <<< (nI o &&& nI 31)))) rfl
          simp only [Bool.false_eq_true, if_false, if_true, mox_r, mox_l, mob_sm, mo2_sm, bz_f, bz_t, twg_thrown_thrown, twg_thrown_m, t_le00, t_lt00, t_eq00, t_le10, t_lt10, t_eq10, t_le20, t_lt20, t_eq20, t_le30, t_lt30, t_eq30, t_lt01, t_lt02, t_lt03]
          rw [e1]
          simp only [Bool.false_eq_true, if_false, if_true, mox_r, mox_l, mob_sm, mo2_sm, bz_f, bz_t, twg_thrown_thrown, twg_thrown_m, t_le00, t_lt00, t_eq00, t_le10, t_lt10, t_eq10, t_le20, t_lt20, t_eq20, t_le30, t_lt30, t_eq30, t_lt01, t_lt02, t_lt03]
          by_cases z : bz (bt (tw_m t (16 + r)) o) = nI 1
          · rw [if_pos z, if_pos z]; exact Or.inl ⟨_, _, _, rfl, rfl, e2, e4⟩
          · rw [if_neg z, if_neg z]; exact Or.inl ⟨_, _, _, rfl, rfl, e2, e4⟩
end ACTS
