
/-! PURE LAWS: questions that may throw -/
def eI : String := "java/lang/IndexOutOfBoundsException"
def eA : String := "java/lang/IllegalArgumentException"
def eN : String := "java/util/NoSuchElementException"
def eU : String := "java/lang/UnsupportedOperationException"
def cdI (E : String) : Int32 := if E = eI then nI 1 else nI 0
def cdA (E : String) : Int32 := if E = eA then nI 1 else nI 0
def cdN (E : String) : Int32 := if E = eN then nI 1 else nI 0
def cdIN (E : String) : Int32 := if E = eI then nI 1 else if E = eN then nI 2 else nI 0
def cdIA (E : String) : Int32 := if E = eI then nI 1 else if E = eA then nI 2 else nI 0
def cdAU (E : String) : Int32 := if E = eA then nI 1 else if E = eU then nI 2 else nI 0
def cdIAN (E : String) : Int32 := if E = eI then nI 1 else if E = eA then nI 2 else if E = eN then nI 3 else nI 0
theorem cdI_I : cdI eI = nI 1 := by decide +kernel
theorem cdA_A : cdA eA = nI 1 := by decide +kernel
theorem cdN_N : cdN eN = nI 1 := by decide +kernel
theorem cdIN_I : cdIN eI = nI 1 := by decide +kernel
theorem cdIN_N : cdIN eN = nI 2 := by decide +kernel
theorem cdIA_I : cdIA eI = nI 1 := by decide +kernel
theorem cdIA_A : cdIA eA = nI 2 := by decide +kernel
theorem cdAU_A : cdAU eA = nI 1 := by decide +kernel
theorem cdAU_U : cdAU eU = nI 2 := by decide +kernel
theorem cdIAN_I : cdIAN eI = nI 1 := by decide +kernel
theorem cdIAN_A : cdIAN eA = nI 2 := by decide +kernel
theorem cdIAN_N : cdIAN eN = nI 3 := by decide +kernel
def EXX {ρ : Type} (cd : String → Int32) (A : Option (String ⊕ ρ)) (B : Option (ρ × Tw)) (t : Tw) : Prop :=
  EX A B (tw_s_thrown t (nI 0)) ∨ ∃ (E : String) (r : ρ), A = some (.inl E) ∧ ¬ cd E = nI 0 ∧ B = some (r, tw_s_thrown t (cd E))
def rin (p lo hi : Int32) : Bool := !decide (p < lo) && !decide (hi < p)
theorem rin_N {p : Int32} {n : Nat} (hn : n < 2 ^ 31) (h : rin p (nI 0) (nI n) = true) : ∃ j, j ≤ n ∧ p = nI j := by
  unfold rin at h
  simp only [Bool.and_eq_true, Bool.not_eq_true', decide_eq_false_iff_not] at h
  exact isN_of h.1 h.2 hn
theorem rin_1 {p : Int32} {n : Nat} (hn : n < 2 ^ 31) (h : rin p (nI 1) (nI n) = true) : ∃ j, 1 ≤ j ∧ j ≤ n ∧ p = nI j := by
  unfold rin at h
  simp only [Bool.and_eq_true, Bool.not_eq_true', decide_eq_false_iff_not] at h
  have h0 : ¬ p < 0 := fun q => h.1 (Int32.lt_of_lt_of_le q (by decide))
  obtain ⟨j, h1, rfl⟩ := isN_of h0 h.2 hn
  exact ⟨j, Nat.le_of_not_lt fun q => h.1 ((nI_ltI (by omega) (by omega)).mpr q), h1, rfl⟩
theorem rin_G {p : Int32} {m : Nat → Int32} (hI : Inv m) (h : rin p (nI 0) (m 3 - nI 1) = true) : ∃ g, g < gN m ∧ p = nI g := by
  obtain ⟨hG, hG8⟩ := hI.G
  unfold rin at h
  simp only [Bool.and_eq_true, Bool.not_eq_true', decide_eq_false_iff_not] at h
  obtain ⟨j, hj, rfl⟩ := nI_of h.1
  refine ⟨j, ?_, rfl⟩
  rw [hG] at h
  rcases Nat.eq_zero_or_pos (gN m) with q | q
  · rw [q, show nI 0 - nI 1 = nM from by decide] at h
    exact absurd (nM_lt hj) h.2
  · rw [pk_sub (by omega)] at h
    have := Nat.le_of_not_lt fun z => h.2 ((nI_ltI (by omega) hj).mpr z)
    omega
theorem rin_L {p : Int32} {x : Int32} {n : Nat} (hx : isN x n) (hn : n < 2 ^ 31) (h : rin p (nI 0) (x - nI 1) = true) : ∃ g, g < x.toNatClampNeg ∧ p = nI g ∧ x.toNatClampNeg ≤ n := by
  obtain ⟨k, hk, rfl⟩ := hx
  rw [clN (by omega)]
  unfold rin at h
  simp only [Bool.and_eq_true, Bool.not_eq_true', decide_eq_false_iff_not] at h
  obtain ⟨j, hj, rfl⟩ := nI_of h.1
  refine ⟨j, ?_, rfl, hk⟩
  rcases Nat.eq_zero_or_pos k with q | q
  · rw [q, show nI 0 - nI 1 = nM from by decide] at h
    exact absurd (nM_lt hj) h.2
  · rw [pk_sub (by omega)] at h
    have := Nat.le_of_not_lt fun z => h.2 ((nI_ltI (by omega) hj).mpr z)
    omega
theorem x_in (v lo hi : Int32) : fX6_isIn v lo hi = some (rin v lo hi) := x_isIn v lo hi
theorem c_in' (v lo hi : Int32) : fX1_in v lo hi = some (rin v lo hi) := x_isIn v lo hi
theorem x_isRoom (p : Int32) : fX6_isRoom p = some (rin p (nI 0) (nI 7)) := by
  unfold fX6_isRoom
  simp only [li0, li1, li2, li3, li4, li5, li6, li7, li8, li9, li10, li11, li12, li13, li14, li15, li16, li20, li24, li26, li30, li31, li32, li40, li41, li43, li48, li50, li52, li57, li59, li60, li62, li64, li65, li66, li67, li97, li99, li100, li122, li236, li239, li240, li255, li254, li256, li304, li400, li703, li704, li999, li1000000, li2000000000, li3344, li3648, li9999, li10000, li32767, lm1]
  rw [x_in, mob_sm]
theorem x_isGuest (t : Tw) (p : Int32) : fX6_isGuest t p = some (rin p (nI 0) (tw_m t 3 - nI 1)) := by
  unfold fX6_isGuest
  simp only [li0, li1, li2, li3, li4, li5, li6, li7, li8, li9, li10, li11, li12, li13, li14, li15, li16, li20, li24, li26, li30, li31, li32, li40, li41, li43, li48, li50, li52, li57, li59, li60, li62, li64, li65, li66, li67, li97, li99, li100, li122, li236, li239, li240, li255, li254, li256, li304, li400, li703, li704, li999, li1000000, li2000000000, li3344, li3648, li9999, li10000, li32767, lm1]
  rw [x_in, mob_sm]
theorem c_demand (b : Bool) : fX1_demand b = if b = true then some (.inr ()) else some (.inl eA) := rfl
theorem c_question (p n : Int32) : fX1_question p n = if rin p (nI 0) n = true then some (.inr ()) else some (.inl eN) := by
  unfold fX1_question
  simp only [li0, li1, li2, li3, li4, li5, li6, li7, li8, li9, li10, li11, li12, li13, li14, li15, li16, li20, li24, li26, li30, li31, li32, li40, li41, li43, li48, li50, li52, li57, li59, li60, li62, li64, li65, li66, li67, li97, li99, li100, li122, li236, li239, li240, li255, li254, li256, li304, li400, li703, li704, li999, li1000000, li2000000000, li3344, li3648, li9999, li10000, li32767, lm1]
  rw [c_in', mob_sm]
  rfl
theorem c_there (p n : Int32) : fX1_there p n = if rin p (nI 0) (n - nI 1) = true then some (.inr ()) else some (.inl eI) := by
  unfold fX1_there
  simp only [li0, li1, li2, li3, li4, li5, li6, li7, li8, li9, li10, li11, li12, li13, li14, li15, li16, li20, li24, li26, li30, li31, li32, li40, li41, li43, li48, li50, li52, li57, li59, li60, li62, li64, li65, li66, li67, li97, li99, li100, li122, li236, li239, li240, li255, li254, li256, li304, li400, li703, li704, li999, li1000000, li2000000000, li3344, li3648, li9999, li10000, li32767, lm1]
  rw [c_in', mob_sm]
  rfl
theorem c_roomAt (p : Int32) : fX1_roomAt p = if rin p (nI 0) (nI 7) = true then some (.inr ()) else some (.inl eI) := by
  unfold fX1_roomAt
  simp only [li0, li1, li2, li3, li4, li5, li6, li7, li8, li9, li10, li11, li12, li13, li14, li15, li16, li20, li24, li26, li30, li31, li32, li40, li41, li43, li48, li50, li52, li57, li59, li60, li62, li64, li65, li66, li67, li97, li99, li100, li122, li236, li239, li240, li255, li254, li256, li304, li400, li703, li704, li999, li1000000, li2000000000, li3344, li3648, li9999, li10000, li32767, lm1]
  rw [c_there, show nI 8 - nI 1 = nI 7 from rfl]
  cases rin p (nI 0) (nI 7) <;> rfl
theorem c_calendarAt (p : Int32) : fX1_calendarAt p = if rin p (nI 0) (nI 1) = true then some (.inr ()) else some (.inl eI) := by
  unfold fX1_calendarAt
  simp only [li0, li1, li2, li3, li4, li5, li6, li7, li8, li9, li10, li11, li12, li13, li14, li15, li16, li20, li24, li26, li30, li31, li32, li40, li41, li43, li48, li50, li52, li57, li59, li60, li62, li64, li65, li66, li67, li97, li99, li100, li122, li236, li239, li240, li255, li254, li256, li304, li400, li703, li704, li999, li1000000, li2000000000, li3344, li3648, li9999, li10000, li32767, lm1]
  rw [c_there, show nI 2 - nI 1 = nI 1 from rfl]
  cases rin p (nI 0) (nI 1) <;> rfl
theorem c_guestAt {w : Wd} {m : Nat → Int32} (h : RW w m) (sh : Kp) (p : Int32) : fX1_guestAt sh w p = if rin p (nI 0) (m 3 - nI 1) = true then some (.inr ()) else some (.inl eI) := by
  unfold fX1_guestAt
  rw [c_there, h.guests]
  cases rin p (nI 0) (m 3 - nI 1) <;> rfl
section OPS3
variable {w : Wd} {t : Tw}
theorem EXX.ok {ρ : Type} {cd : String → Int32} {A : Option (String ⊕ ρ)} {B : Option (ρ × Tw)} {t : Tw} (h : EX A B (tw_s_thrown t (nI 0))) : EXX cd A B t := Or.inl h
theorem EXX.no {ρ : Type} {cd : String → Int32} {t : Tw} {E : String} {k : Nat} (hc : cd E = nI k) (r : ρ) (h2 : ¬ nI k = nI 0) : EXX cd (some (.inl E)) (some (r, tw_s_thrown t (nI k))) t := Or.inr ⟨E, r, rfl, by rw [hc]; exact h2, by rw [hc]⟩
theorem b_saturdays (h : RW w (tw_m t)) (h0 : tw_thrown t = nI 0) {N : Nat} (hN : N ≤ 400) : EX (fX1_saturdays_L15 (nI N) w mFU (nI 0) (nI 0)) (fX6_saturdays_L24 (nI N) t mFU (nI 0) (nI 0)) t := by
  refine lpU (α := Int32) (fun n i a => EX (fX1_saturdays_L15 (nI N) w n a (nI i)) (fX6_saturdays_L24 (nI N) t n a (nI i)) t) (fun _ _ => True) N ?_ ?_ (by unfold mFU; omega) (nI 0) trivial
  · intro n a _
    simp only [fX1_saturdays_L15, fX6_saturdays_L24]
    rw [if_pos (Int32.le_refl _), if_pos (Int32.le_refl _)]
    exact EX.mk _ _
  · intro n i a hi _ ih
    simp only [fX1_saturdays_L15, fX6_saturdays_L24, li0, li1, li2, li3, li4, li5, li6, li7, li8, li9, li10, li11, li12, li13, li14, li15, li16, li20, li24, li26, li30, li31, li32, li40, li41, li43, li48, li50, li52, li57, li59, li60, li62, li64, li65, li66, li67, li97, li99, li100, li122, li236, li239, li240, li255, li254, li256, li304, li400, li703, li704, li999, li1000000, li2000000000, li3344, li3648, li9999, li10000, li32767, lm1]
    rw [if_neg (nI_ge hi (by omega)), if_neg (nI_ge hi (by omega)), if_pos h0, c_isSat h (by omega), c_isSat h (by omega), x_isSat t (by omega), x_isSat t (by omega), h.day, nI_add]
    simp only [mob_sm]
    cases sSat (tw_m t) 0 (tw_m t 10 + nI i)
    · cases sSat (tw_m t) 1 (tw_m t 10 + nI i)
      · exact ih _ trivial
      · exact ih _ trivial
    · exact ih _ trivial
theorem o_saturdays (h : RW w (tw_m t)) (sh : Kp) (p : Int32) : EXX cdA (fX1_saturdays sh w p) (fX6_saturdays t p) t := by
  unfold fX1_saturdays fX6_saturdays
  simp only [li0, li1, li2, li3, li4, li5, li6, li7, li8, li9, li10, li11, li12, li13, li14, li15, li16, li20, li24, li26, li30, li31, li32, li40, li41, li43, li48, li50, li52, li57, li59, li60, li62, li64, li65, li66, li67, li97, li99, li100, li122, li236, li239, li240, li255, li254, li256, li304, li400, li703, li704, li999, li1000000, li2000000000, li3344, li3648, li9999, li10000, li32767, lm1, mjn_e, mlt_e]
  rw [c_in', x_in, mob_sm, mob_sm, c_demand]
  cases hr : rin p (nI 0) (nI 400)
  · simp only [Bool.false_eq_true, if_false, if_true, mox_r, mox_l, mob_sm, mo2_sm, bz_f, bz_t, twg_thrown_thrown, twg_thrown_m, t_le00, t_lt00, t_eq00, t_le10, t_lt10, t_eq10, t_le20, t_lt20, t_eq20, t_le30, t_lt30, t_eq30, t_lt01, t_lt02, t_lt03]
    obtain ⟨n, en⟩ := mFU_e
    rw [en]
    simp only [fX6_saturdays_L24, li0, li1, li2, li3, li4, li5, li6, li7, li8, li9, li10, li11, li12, li13, li14, li15, li16, li20, li24, li26, li30, li31, li32, li40, li41, li43, li48, li50, li52, li57, li59, li60, li62, li64, li65, li66, li67, li97, li99, li100, li122, li236, li239, li240, li255, li254, li256, li304, li400, li703, li704, li999, li1000000, li2000000000, li3344, li3648, li9999, li10000, li32767, lm1, Bool.false_eq_true, if_false, if_true, mox_r, mox_l, mob_sm, mo2_sm, bz_f, bz_t, twg_thrown_thrown, twg_thrown_m, t_le00, t_lt00, t_eq00, t_le10, t_lt10, t_eq10, t_le20, t_lt20, t_eq20, t_le30, t_lt30, t_eq30, t_lt01, t_lt02, t_lt03]
    by_cases q : p ≤ nI 0
    · rw [if_pos q]
      exact EXX.no cdA_A _ (by decide +kernel)
    · rw [if_neg q]
      exact EXX.no cdA_A _ (by decide +kernel)
  · obtain ⟨N, hN, rfl⟩ := rin_N (by omega) hr
    simp only [Bool.false_eq_true, if_false, if_true, mox_r, mox_l, mob_sm, mo2_sm, bz_f, bz_t, twg_thrown_thrown, twg_thrown_m, t_le00, t_lt00, t_eq00, t_le10, t_lt10, t_eq10, t_le20, t_lt20, t_eq20, t_le30, t_lt30, t_eq30, t_lt01, t_lt02, t_lt03]
    exact EXX.ok (b_saturdays (t := tw_s_thrown t (nI 0)) h (twg_thrown_thrown _ _) hN)
theorem b_agree (h : RW w (tw_m t)) (h0 : tw_thrown t = nI 0) {N : Nat} (hN : N ≤ 400) : EX (fX1_agree_L15 (nI N) w mFU (nI 0) (nI 0)) (fX6_agree_L24 (nI N) t mFU (nI 0) (nI 0)) t := by
  refine lpU (α := Int32) (fun n i a => EX (fX1_agree_L15 (nI N) w n a (nI i)) (fX6_agree_L24 (nI N) t n a (nI i)) t) (fun _ _ => True) N ?_ ?_ (by unfold mFU; omega) (nI 0) trivial
  · intro n a _
    simp only [fX1_agree_L15, fX6_agree_L24]
    rw [if_pos (Int32.le_refl _), if_pos (Int32.le_refl _)]
    exact EX.mk _ _
  · intro n i a hi _ ih
    simp only [fX1_agree_L15, fX6_agree_L24, li0, li1, li2, li3, li4, li5, li6, li7, li8, li9, li10, li11, li12, li13, li14, li15, li16, li20, li24, li26, li30, li31, li32, li40, li41, li43, li48, li50, li52, li57, li59, li60, li62, li64, li65, li66, li67, li97, li99, li100, li122, li236, li239, li240, li255, li254, li256, li304, li400, li703, li704, li999, li1000000, li2000000000, li3344, li3648, li9999, li10000, li32767, lm1]
    rw [if_neg (nI_ge hi (by omega)), if_neg (nI_ge hi (by omega)), if_pos h0, c_isSat h (by omega), c_isSat h (by omega), x_isSat t (by omega), x_isSat t (by omega), h.day, nI_add]
    simp only [mob_sm]
    by_cases q : bz (sSat (tw_m t) 0 (tw_m t 10 + nI i)) = bz (sSat (tw_m t) 1 (tw_m t 10 + nI i))
    · rw [if_pos q, if_pos q]
      exact ih _ trivial
    · rw [if_neg q, if_neg q]
      exact ih _ trivial
theorem o_agree (h : RW w (tw_m t)) (sh : Kp) (p : Int32) : EXX cdA (fX1_agree sh w p) (fX6_agree t p) t := by
  unfold fX1_agree fX6_agree
  simp only [li0, li1, li2, li3, li4, li5, li6, li7, li8, li9, li10, li11, li12, li13, li14, li15, li16, li20, li24, li26, li30, li31, li32, li40, li41, li43, li48, li50, li52, li57, li59, li60, li62, li64, li65, li66, li67, li97, li99, li100, li122, li236, li239, li240, li255, li254, li256, li304, li400, li703, li704, li999, li1000000, li2000000000, li3344, li3648, li9999, li10000, li32767, lm1, mjn_e, mlt_e]
  rw [c_in', x_in, mob_sm, mob_sm, c_demand]
  cases hr : rin p (nI 0) (nI 400)
  · simp only [Bool.false_eq_true, if_false, if_true, mox_r, mox_l, mob_sm, mo2_sm, bz_f, bz_t, twg_thrown_thrown, twg_thrown_m, t_le00, t_lt00, t_eq00, t_le10, t_lt10, t_eq10, t_le20, t_lt20, t_eq20, t_le30, t_lt30, t_eq30, t_lt01, t_lt02, t_lt03]
    obtain ⟨n, en⟩ := mFU_e
    rw [en]
    simp only [fX6_agree_L24, li0, li1, li2, li3, li4, li5, li6, li7, li8, li9, li10, li11, li12, li13, li14, li15, li16, li20, li24, li26, li30, li31, li32, li40, li41, li43, li48, li50, li52, li57, li59, li60, li62, li64, li65, li66, li67, li97, li99, li100, li122, li236, li239, li240, li255, li254, li256, li304, li400, li703, li704, li999, li1000000, li2000000000, li3344, li3648, li9999, li10000, li32767, lm1, Bool.false_eq_true, if_false, if_true, mox_r, mox_l, mob_sm, mo2_sm, bz_f, bz_t, twg_thrown_thrown, twg_thrown_m, t_le00, t_lt00, t_eq00, t_le10, t_lt10, t_eq10, t_le20, t_lt20, t_eq20, t_le30, t_lt30, t_eq30, t_lt01, t_lt02, t_lt03]
    by_cases q : p ≤ nI 0
    · rw [if_pos q]
      exact EXX.no cdA_A _ (by decide +kernel)
    · rw [if_neg q]
      exact EXX.no cdA_A _ (by decide +kernel)
  · obtain ⟨N, hN, rfl⟩ := rin_N (by omega) hr
    simp only [Bool.false_eq_true, if_false, if_true, mox_r, mox_l, mob_sm, mo2_sm, bz_f, bz_t, twg_thrown_thrown, twg_thrown_m, t_le00, t_lt00, t_eq00, t_le10, t_lt10, t_eq10, t_le20, t_lt20, t_eq20, t_le30, t_lt30, t_eq30, t_lt01, t_lt02, t_lt03]
    exact EXX.ok (b_agree (t := tw_s_thrown t (nI 0)) h (twg_thrown_thrown _ _) hN)
theorem x_lesser (a b : Int32) : fX6_lesser a b = some (zmn a b) := by
  unfold fX6_lesser
  rw [zmn_e]
  split <;> rfl
theorem x_greater (a b : Int32) : fX6_greater a b = some (zmx a b) := by
  unfold fX6_greater
  rw [zmx_e]
  split <;> rfl
theorem o_need (h : RW w (tw_m t)) (sh : Kp) (p : Int32) : EXX cdA (fX1_need sh w p) (fX6_need t p) t := by
  unfold fX1_need fX6_need
  simp only [li0, li1, li2, li3, li4, li5, li6, li7, li8, li9, li10, li11, li12, li13, li14, li15, li16, li20, li24, li26, li30, li31, li32, li40, li41, li43, li48, li50, li52, li57, li59, li60, li62, li64, li65, li66, li67, li97, li99, li100, li122, li236, li239, li240, li255, li254, li256, li304, li400, li703, li704, li999, li1000000, li2000000000, li3344, li3648, li9999, li10000, li32767, lm1, mjn_e, mlt_e]
  rw [c_in', x_in, mob_sm, mob_sm, c_demand]
  cases hr : rin p (nI 1) (nI 9999)
  · simp only [Bool.false_eq_true, if_false, if_true, mox_r, mox_l, mob_sm, mo2_sm, bz_f, bz_t, twg_thrown_thrown, twg_thrown_m, t_le00, t_lt00, t_eq00, t_le10, t_lt10, t_eq10, t_le20, t_lt20, t_eq20, t_le30, t_lt30, t_eq30, t_lt01, t_lt02, t_lt03]
    exact EXX.no cdA_A _ (by decide +kernel)
  · simp only [Bool.false_eq_true, if_false, if_true, mox_r, mox_l, mob_sm, mo2_sm, bz_f, bz_t, twg_thrown_thrown, twg_thrown_m, t_le00, t_lt00, t_eq00, t_le10, t_lt10, t_eq10, t_le20, t_lt20, t_eq20, t_le30, t_lt30, t_eq30, t_lt01, t_lt02, t_lt03]
    rw [x_greater, h.towers, h.stones, mob_sm]
    exact EXX.ok (EX.mk _ _)
theorem b_next (h : RW w (tw_m t)) (hI : Inv (tw_m t)) {c : Nat} (hc : c < 2) : ER (fX1_nextSaturday_L2 w (nI c) mFU (nI 0)) (fX6_calendar_L52 t (nI c) mFU (nI 0)) t := by
  have e : ∀ d : Nat, d ≤ 9999 → ∀ s : Nat, s ≤ 6 → ∃ k, k < 7 ∧ (d + k + s) % 7 = 6 := by
    intro d hd s hs
    refine ⟨(13 - (d + s) % 7) % 7, by omega, ?_⟩
    omega
  obtain ⟨d, hd, ed⟩ := hI 10 9999 rfl
  obtain ⟨s, hs, es⟩ : isN (tw_m t (12 + c)) 6 := by
    rcases Nat.lt_or_ge c 1 with q | q
    · have : c = 0 := by omega
      subst this
      exact hI 12 6 rfl
    · have : c = 1 := by omega
      subst this
      exact hI 13 6 rfl
  obtain ⟨k, hk, ek⟩ := e d hd s hs
  have hs1 : ∀ i, i < 7 → sSat (tw_m t) c (tw_m t 10 + nI i) = decide ((d + i + s) % 7 = 6) := by
    intro i hi
    unfold sSat
    rw [ed, es, nI_add, nI_add, mrm_N (by omega) (by omega) (by omega), Bool.eq_iff_iff, decide_eq_true_iff, decide_eq_true_iff]
    exact nI_eq (by omega) (by omega)
  have key : ∀ j n i, i + j = k → j < n → ER (fX1_nextSaturday_L2 w (nI c) n (nI i)) (fX6_calendar_L52 t (nI c) n (nI i)) t := by
    intro j
    induction j with
    | zero =>
      intro n i hi hn
      obtain ⟨n, rfl⟩ : ∃ n', n = n' + 1 := ⟨n - 1, by omega⟩
      have : i = k := by omega
      subst this
      simp only [fX1_nextSaturday_L2, fX6_calendar_L52, li0, li1, li2, li3, li4, li5, li6, li7, li8, li9, li10, li11, li12, li13, li14, li15, li16, li20, li24, li26, li30, li31, li32, li40, li41, li43, li48, li50, li52, li57, li59, li60, li62, li64, li65, li66, li67, li97, li99, li100, li122, li236, li239, li240, li255, li254, li256, li304, li400, li703, li704, li999, li1000000, li2000000000, li3344, li3648, li9999, li10000, li32767, lm1]
      rw [c_isSat h hc, x_isSat t hc, h.day, hs1 i hk, decide_eq_true ek]
      exact ER.mk _ _
    | succ j ih =>
      intro n i hi hn
      obtain ⟨n, rfl⟩ : ∃ n', n = n' + 1 := ⟨n - 1, by omega⟩
      simp only [fX1_nextSaturday_L2, fX6_calendar_L52, li0, li1, li2, li3, li4, li5, li6, li7, li8, li9, li10, li11, li12, li13, li14, li15, li16, li20, li24, li26, li30, li31, li32, li40, li41, li43, li48, li50, li52, li57, li59, li60, li62, li64, li65, li66, li67, li97, li99, li100, li122, li236, li239, li240, li255, li254, li256, li304, li400, li703, li704, li999, li1000000, li2000000000, li3344, li3648, li9999, li10000, li32767, lm1]
      rw [c_isSat h hc, x_isSat t hc, h.day, mob_sm, mob_sm, nI_add]
      by_cases q : sSat (tw_m t) c (tw_m t 10 + nI i) = true
      · rw [if_pos q, if_pos q]
        exact ER.mk _ _
      · rw [if_neg q, if_neg q]
        exact ih n (i + 1) (by omega) (by omega)
  exact key k mFU 0 (by omega) (by unfold mFU; omega)
theorem o_calendar (h : RW w (tw_m t)) (hI : Inv (tw_m t)) (sh : Kp) (p : Int32) (b : Bool) : EXX cdI (fX1_calendar sh w p b) (fX6_calendar t p b) t := by
  unfold fX1_calendar fX6_calendar fX1_nextSaturday
  simp only [li0, li1, li2, li3, li4, li5, li6, li7, li8, li9, li10, li11, li12, li13, li14, li15, li16, li20, li24, li26, li30, li31, li32, li40, li41, li43, li48, li50, li52, li57, li59, li60, li62, li64, li65, li66, li67, li97, li99, li100, li122, li236, li239, li240, li255, li254, li256, li304, li400, li703, li704, li999, li1000000, li2000000000, li3344, li3648, li9999, li10000, li32767, lm1, mjn_e, mlt_e]
  rw [c_calendarAt, x_in, mob_sm]
  cases hr : rin p (nI 0) (nI 1)
  · simp only [Bool.false_eq_true, if_false, if_true, mox_r, mox_l, mob_sm, mo2_sm, bz_f, bz_t, twg_thrown_thrown, twg_thrown_m, t_le00, t_lt00, t_eq00, t_le10, t_lt10, t_eq10, t_le20, t_lt20, t_eq20, t_le30, t_lt30, t_eq30, t_lt01, t_lt02, t_lt03]
    exact EXX.no cdI_I _ (by decide +kernel)
  · obtain ⟨c, hc, rfl⟩ := rin_N (by omega) hr
    cases b
    · simp only [Bool.false_eq_true, if_false, if_true, mox_r, mox_l, mob_sm, mo2_sm, bz_f, bz_t, twg_thrown_thrown, twg_thrown_m, t_le00, t_lt00, t_eq00, t_le10, t_lt10, t_eq10, t_le20, t_lt20, t_eq20, t_le30, t_lt30, t_eq30, t_lt01, t_lt02, t_lt03]
      rw [nI_add, mckN _ (by omega) (by omega), mckN _ (by omega) (by omega), clN (by omega), clN (by omega), h.shift (by omega)]
      exact EXX.ok (EX.mk _ _)
    · simp only [Bool.false_eq_true, if_false, if_true, mox_r, mox_l, mob_sm, mo2_sm, bz_f, bz_t, twg_thrown_thrown, twg_thrown_m, t_le00, t_lt00, t_eq00, t_le10, t_lt10, t_eq10, t_le20, t_lt20, t_eq20, t_le30, t_lt30, t_eq30, t_lt01, t_lt02, t_lt03]
      obtain ⟨r, h1, h2⟩ := b_next (t := tw_s_thrown t (nI 0)) h hI (show c < 2 by omega)
      rw [h1, h2, mob_sm]
      exact EXX.ok (EX.mk _ _)
theorem o_saturday (h : RW w (tw_m t)) (sh : Kp) (p q : Int32) : EXX cdIA (fX1_saturday sh w p q) (fX6_saturday t p q) t := by
  unfold fX1_saturday fX6_saturday
  simp only [li0, li1, li2, li3, li4, li5, li6, li7, li8, li9, li10, li11, li12, li13, li14, li15, li16, li20, li24, li26, li30, li31, li32, li40, li41, li43, li48, li50, li52, li57, li59, li60, li62, li64, li65, li66, li67, li97, li99, li100, li122, li236, li239, li240, li255, li254, li256, li304, li400, li703, li704, li999, li1000000, li2000000000, li3344, li3648, li9999, li10000, li32767, lm1, mjn_e, mlt_e]
  rw [c_calendarAt, x_in, mob_sm, c_in', x_in, mob_sm, mob_sm, c_demand]
  cases hr : rin p (nI 0) (nI 1)
  · simp only [Bool.false_eq_true, if_false, if_true, mox_r, mox_l, mob_sm, mo2_sm, bz_f, bz_t, twg_thrown_thrown, twg_thrown_m, t_le00, t_lt00, t_eq00, t_le10, t_lt10, t_eq10, t_le20, t_lt20, t_eq20, t_le30, t_lt30, t_eq30, t_lt01, t_lt02, t_lt03]
    exact EXX.no cdIA_I _ (by decide +kernel)
  · obtain ⟨c, hc, rfl⟩ := rin_N (by omega) hr
    cases hr2 : rin q (nI 0) (nI 9999)
    · simp only [Bool.false_eq_true, if_false, if_true, mox_r, mox_l, mob_sm, mo2_sm, bz_f, bz_t, twg_thrown_thrown, twg_thrown_m, t_le00, t_lt00, t_eq00, t_le10, t_lt10, t_eq10, t_le20, t_lt20, t_eq20, t_le30, t_lt30, t_eq30, t_lt01, t_lt02, t_lt03]
      exact EXX.no cdIA_A _ (by decide +kernel)
    · simp only [Bool.false_eq_true, if_false, if_true, mox_r, mox_l, mob_sm, mo2_sm, bz_f, bz_t, twg_thrown_thrown, twg_thrown_m, t_le00, t_lt00, t_eq00, t_le10, t_lt10, t_eq10, t_le20, t_lt20, t_eq20, t_le30, t_lt30, t_eq30, t_lt01, t_lt02, t_lt03]
      rw [c_isSat h (by omega), x_isSat _ (by omega), mob_sm, mob_sm, twg_thrown_m]
      cases sSat (tw_m t) c q
      · exact EXX.ok (EX.mk _ _)
      · exact EXX.ok (EX.mk _ _)
theorem o_room (h : RW w (tw_m t)) (hI : Inv (tw_m t)) (sh : Kp) (p q : Int32) : EXX cdIN (fX1_room sh w p q) (fX6_room t p q) t := by
  unfold fX1_room fX6_room
  simp only [li0, li1, li2, li3, li4, li5, li6, li7, li8, li9, li10, li11, li12, li13, li14, li15, li16, li20, li24, li26, li30, li31, li32, li40, li41, li43, li48, li50, li52, li57, li59, li60, li62, li64, li65, li66, li67, li97, li99, li100, li122, li236, li239, li240, li255, li254, li256, li304, li400, li703, li704, li999, li1000000, li2000000000, li3344, li3648, li9999, li10000, li32767, lm1, mjn_e, mlt_e]
  rw [c_roomAt, x_isRoom, mob_sm, x_in, mob_sm, c_question]
  cases hr : rin p (nI 0) (nI 7)
  · simp only [Bool.false_eq_true, if_false, if_true, mox_r, mox_l, mob_sm, mo2_sm, bz_f, bz_t, twg_thrown_thrown, twg_thrown_m, t_le00, t_lt00, t_eq00, t_le10, t_lt10, t_eq10, t_le20, t_lt20, t_eq20, t_le30, t_lt30, t_eq30, t_lt01, t_lt02, t_lt03]
    exact EXX.no cdIN_I _ (by decide +kernel)
  · obtain ⟨r, hr7, rfl⟩ := rin_N (by omega) hr
    cases hr2 : rin q (nI 0) (nI 3)
    · simp only [Bool.false_eq_true, if_false, if_true, mox_r, mox_l, mob_sm, mo2_sm, bz_f, bz_t, twg_thrown_thrown, twg_thrown_m, t_le00, t_lt00, t_eq00, t_le10, t_lt10, t_eq10, t_le20, t_lt20, t_eq20, t_le30, t_lt30, t_eq30, t_lt01, t_lt02, t_lt03]
      exact EXX.no cdIN_N _ (by decide +kernel)
    · simp only [Bool.false_eq_true, if_false, if_true, mox_r, mox_l, mob_sm, mo2_sm, bz_f, bz_t, twg_thrown_thrown, twg_thrown_m, t_le00, t_lt00, t_eq00, t_le10, t_lt10, t_eq10, t_le20, t_lt20, t_eq20, t_le30, t_lt30, t_eq30, t_lt01, t_lt02, t_lt03]
      have hI' : Inv (tw_m (tw_s_thrown t (nI 0))) := hI
      rw [c_into h (by omega), c_inside h hI (by omega), c_watchers h hI (by omega), x_from _ (by omega), x_guestsIn _ hI' (by omega), x_watchers _ hI' (by omega), nI_add, mckN _ (by omega) (by omega), mckN _ (by omega) (by omega), clN (by omega), clN (by omega), h.holes (by omega)]
      simp only [Bool.false_eq_true, if_false, if_true, mox_r, mox_l, mob_sm, mo2_sm, bz_f, bz_t, twg_thrown_thrown, twg_thrown_m, t_le00, t_lt00, t_eq00, t_le10, t_lt10, t_eq10, t_le20, t_lt20, t_eq20, t_le30, t_lt30, t_eq30, t_lt01, t_lt02, t_lt03]
      by_cases q0 : q = nI 0
      · rw [if_pos q0, if_pos q0]; exact EXX.ok (EX.mk _ _)
      · rw [if_neg q0, if_neg q0]
        by_cases q1 : q = nI 1
        · rw [if_pos q1, if_pos q1]; exact EXX.ok (EX.mk _ _)
        · rw [if_neg q1, if_neg q1]
          by_cases q2 : q = nI 2
          · rw [if_pos q2, if_pos q2]; exact EXX.ok (EX.mk _ _)
          · rw [if_neg q2, if_neg q2]; exact EXX.ok (EX.mk _ _)
end OPS3
