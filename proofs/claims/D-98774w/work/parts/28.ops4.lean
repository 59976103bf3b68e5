/-! PURE LAWS: questions, third part -/
theorem or_z (x : Int32) : x ||| nI 0 = x := Int32.or_zero
def prd : Nat → Int32
  | 0 => nM
  | k + 1 => nI k
theorem prd_e (n : Nat) : nI n - nI 1 = prd n := by
  cases n with
  | zero => decide
  | succ k => exact nI_pred k
theorem prd_s (n : Nat) : prd (n + 1) + nM = prd n := by
  cases n with
  | zero => decide
  | succ k => exact nM_pred k
section OPS4
variable {w : Wd} {t : Tw}
theorem b_line2 (h : RW w (tw_m t)) (K : Int32 → Option (String ⊕ Int32)) (K' : Int32 → Option (Int32 × Tw)) (hK : ∀ a, EX (K a) (K' a) t) (c a : Int32) : EX (fX1_line_L39 K c w mFU a (nI 0)) (fX6_line_L63 K' c t mFU a (nI 0)) t := by
  refine lpU (α := Int32) (fun n i a => EX (fX1_line_L39 K c w n a (nI i)) (fX6_line_L63 K' c t n a (nI i)) t) (fun _ _ => True) 8 ?_ ?_ (by decide) a trivial
  · intro n a _
    simp only [fX1_line_L39, fX6_line_L63, li0, li1, li2, li3, li4, li5, li6, li7, li8, li9, li10, li11, li12, li13, li14, li15, li16, li20, li24, li26, li30, li31, li32, li40, li41, li43, li48, li50, li52, li57, li59, li60, li62, li64, li65, li66, li67, li97, li99, li100, li122, li236, li239, li240, li255, li254, li256, li304, li400, li703, li704, li999, li1000000, li2000000000, li3344, li3648, li9999, li10000, li32767, lm1]
    rw [if_pos (Int32.le_refl _), if_pos (Int32.le_refl _)]
    exact hK a
  · intro n i a hi _ ih
    simp only [fX1_line_L39, fX6_line_L63, li0, li1, li2, li3, li4, li5, li6, li7, li8, li9, li10, li11, li12, li13, li14, li15, li16, li20, li24, li26, li30, li31, li32, li40, li41, li43, li48, li50, li52, li57, li59, li60, li62, li64, li65, li66, li67, li97, li99, li100, li122, li236, li239, li240, li255, li254, li256, li304, li400, li703, li704, li999, li1000000, li2000000000, li3344, li3648, li9999, li10000, li32767, lm1, mlt_e]
    rw [if_neg (nI_ge hi (by omega)), if_neg (nI_ge hi (by omega)), c_has _ (by omega), x_isOf _ (by omega), mob_sm, mob_sm, nI_add, nI_add, mckN _ (by omega) (by omega), mckN _ (by omega) (by omega), clN (by omega), clN (by omega), h.holes hi, or_z]
    cases bt c i
    · exact ih _ trivial
    · exact ih _ trivial
theorem b_line (h : RW w (tw_m t)) {q : Nat} (hq : q < 8) (c : Int32) : EX (fX1_line_L15 (nI q) w mFU c (nI 0)) (fX6_line_L39 t (nI q) mFU c (nI 0)) t := by
  refine lpU (α := Int32) (fun n i a => EX (fX1_line_L15 (nI q) w n a (nI i)) (fX6_line_L39 t (nI q) n a (nI i)) t) (fun _ _ => True) 8 ?_ ?_ (by decide) c trivial
  · intro n a _
    simp only [fX1_line_L15, fX6_line_L39, li0, li1, li2, li3, li4, li5, li6, li7, li8, li9, li10, li11, li12, li13, li14, li15, li16, li20, li24, li26, li30, li31, li32, li40, li41, li43, li48, li50, li52, li57, li59, li60, li62, li64, li65, li66, li67, li97, li99, li100, li122, li236, li239, li240, li255, li254, li256, li304, li400, li703, li704, li999, li1000000, li2000000000, li3344, li3648, li9999, li10000, li32767, lm1]
    rw [if_pos (Int32.le_refl _), if_pos (Int32.le_refl _)]
    exact EX.mk _ _
  · intro n i a hi _ ih
    simp only [fX1_line_L15, fX6_line_L39, li0, li1, li2, li3, li4, li5, li6, li7, li8, li9, li10, li11, li12, li13, li14, li15, li16, li20, li24, li26, li30, li31, li32, li40, li41, li43, li48, li50, li52, li57, li59, li60, li62, li64, li65, li66, li67, li97, li99, li100, li122, li236, li239, li240, li255, li254, li256, li304, li400, li703, li704, li999, li1000000, li2000000000, li3344, li3648, li9999, li10000, li32767, lm1, mjn_e]
    rw [if_neg (nI_ge hi (by omega)), if_neg (nI_ge hi (by omega)), c_has _ (by omega), x_isOf _ (by omega), mob_sm, mob_sm, nI_add]
    cases bt a q
    · exact b_line2 h _ _ (fun a => ih a trivial) a a
    · exact EX.mk _ _
theorem o_line (h : RW w (tw_m t)) (sh : Kp) (p q : Int32) : EXX cdI (fX1_line sh w p q) (fX6_line t p q) t := by
  unfold fX1_line fX6_line
  simp only [li0, li1, li2, li3, li4, li5, li6, li7, li8, li9, li10, li11, li12, li13, li14, li15, li16, li20, li24, li26, li30, li31, li32, li40, li41, li43, li48, li50, li52, li57, li59, li60, li62, li64, li65, li66, li67, li97, li99, li100, li122, li236, li239, li240, li255, li254, li256, li304, li400, li703, li704, li999, li1000000, li2000000000, li3344, li3648, li9999, li10000, li32767, lm1, mjn_e, mlt_e]
  rw [c_roomAt, c_roomAt, x_isRoom, x_isRoom, mob_sm, mob_sm]
  cases hr : rin p (nI 0) (nI 7)
  · simp only [Bool.false_eq_true, if_false, if_true, mox_r, mox_l, mob_sm, mo2_sm, bz_f, bz_t, twg_thrown_thrown, twg_thrown_m, t_le00, t_lt00, t_eq00, t_le10, t_lt10, t_eq10, t_le20, t_lt20, t_eq20, t_le30, t_lt30, t_eq30, t_lt01, t_lt02, t_lt03]
    exact EXX.no cdI_I _ (by decide +kernel)
  · cases hr2 : rin q (nI 0) (nI 7)
    · simp only [Bool.false_eq_true, if_false, if_true, mox_r, mox_l, mob_sm, mo2_sm, bz_f, bz_t, twg_thrown_thrown, twg_thrown_m, t_le00, t_lt00, t_eq00, t_le10, t_lt10, t_eq10, t_le20, t_lt20, t_eq20, t_le30, t_lt30, t_eq30, t_lt01, t_lt02, t_lt03]
      exact EXX.no cdI_I _ (by decide +kernel)
    · obtain ⟨j, hj, rfl⟩ := rin_N (by omega) hr2
      simp only [Bool.false_eq_true, if_false, if_true, mox_r, mox_l, mob_sm, mo2_sm, bz_f, bz_t, twg_thrown_thrown, twg_thrown_m, t_le00, t_lt00, t_eq00, t_le10, t_lt10, t_eq10, t_le20, t_lt20, t_eq20, t_le30, t_lt30, t_eq30, t_lt01, t_lt02, t_lt03]
      exact EXX.ok (b_line (t := tw_s_thrown t (nI 0)) h (show j < 8 by omega) _)
/-! passing round -/
def stp (o : Option Nat) (F : Int32) : Int32 := match o with
  | none => F
  | some n => nI n
theorem stp_n (F : Int32) : stp none F = F := id rfl
theorem stp_s (n : Nat) (F : Int32) : stp (some n) F = nI n := id rfl
theorem b_steps1 (h : RW w (tw_m t)) (hI : Inv (tw_m t)) {to : Nat} (hto : to < 8) : ∀ d n r c, r < 8 → (to + 8 - r) % 8 = d → d < n → c + d ≤ 8 → ∃ o : Option Nat, (∀ k, o = some k → k ≤ 8) ∧ fX1_stepsBy_L6 (nI to) w (nI 1) (some (nI 1000000)) n (nI c) (nI r) = some (stp o (nI 1000000)) ∧ fX6_round_L6 (nI to) t (nI 1) (some (nI 2000000000)) n (nI c) (nI r) = some (stp o (nI 2000000000)) := by
  intro d
  induction d with
  | zero =>
    intro n r c hr hd hn hc
    obtain ⟨n, rfl⟩ : ∃ n', n = n' + 1 := ⟨n - 1, by omega⟩
    have : r = to := by omega
    subst this
    refine ⟨some c, fun k e => by cases e; omega, ?_, ?_⟩
    · simp only [fX1_stepsBy_L6, if_true]; rfl
    · simp only [fX6_round_L6, if_true]; rfl
  | succ d ih =>
    intro n r c hr hd hn hc
    obtain ⟨n, rfl⟩ : ∃ n', n = n' + 1 := ⟨n - 1, by omega⟩
    have e1 : ¬ nI r = nI to := fun q => by have := (nI_eq (by omega) (by omega)).mp q; omega
    simp only [fX1_stepsBy_L6, fX6_round_L6, li0, li1, li2, li3, li4, li5, li6, li7, li8, li9, li10, li11, li12, li13, li14, li15, li16, li20, li24, li26, li30, li31, li32, li40, li41, li43, li48, li50, li52, li57, li59, li60, li62, li64, li65, li66, li67, li97, li99, li100, li122, li236, li239, li240, li255, li254, li256, li304, li400, li703, li704, li999, li1000000, li2000000000, li3344, li3648, li9999, li10000, li32767, lm1]
    rw [if_neg e1, if_neg e1, nI_add, nI_add, nI_add, mrm_N (by omega) (by omega) (by omega), mrm_N (by omega) (by omega) (by omega), show (r + 1 + 8) % 8 = (r + 1) % 8 by omega, c_inside h hI (by omega), x_guestsIn t hI (by omega), mob_sm, mob_sm]
    by_cases q : sIn (tw_m t) ((r + 1) % 8) = nI 0
    · rw [if_pos q, if_pos q]
      exact ih n _ (c + 1) (by omega) (by omega) (by omega) (by omega)
    · rw [if_neg q, if_neg q]
      exact ⟨none, (fun k e => nomatch e), rfl, rfl⟩
theorem b_steps7 (h : RW w (tw_m t)) (hI : Inv (tw_m t)) {to : Nat} (hto : to < 8) : ∀ d n r c, r < 8 → (r + 8 - to) % 8 = d → d < n → c + d ≤ 8 → ∃ o : Option Nat, (∀ k, o = some k → k ≤ 8) ∧ fX1_stepsBy_L6 (nI to) w (nI 7) (some (nI 1000000)) n (nI c) (nI r) = some (stp o (nI 1000000)) ∧ fX6_round_L6 (nI to) t nM (some (nI 2000000000)) n (nI c) (nI r) = some (stp o (nI 2000000000)) := by
  intro d
  induction d with
  | zero =>
    intro n r c hr hd hn hc
    obtain ⟨n, rfl⟩ : ∃ n', n = n' + 1 := ⟨n - 1, by omega⟩
    have : r = to := by omega
    subst this
    refine ⟨some c, fun k e => by cases e; omega, ?_, ?_⟩
    · simp only [fX1_stepsBy_L6, if_true]; rfl
    · simp only [fX6_round_L6, if_true]; rfl
  | succ d ih =>
    intro n r c hr hd hn hc
    obtain ⟨n, rfl⟩ : ∃ n', n = n' + 1 := ⟨n - 1, by omega⟩
    have e1 : ¬ nI r = nI to := fun q => by have := (nI_eq (by omega) (by omega)).mp q; omega
    have e2 : (nI r + nM) + nI 8 = nI (r + 7) := by rw [Int32.add_assoc, show nM + nI 8 = nI 7 from by decide, nI_add]
    simp only [fX1_stepsBy_L6, fX6_round_L6, li0, li1, li2, li3, li4, li5, li6, li7, li8, li9, li10, li11, li12, li13, li14, li15, li16, li20, li24, li26, li30, li31, li32, li40, li41, li43, li48, li50, li52, li57, li59, li60, li62, li64, li65, li66, li67, li97, li99, li100, li122, li236, li239, li240, li255, li254, li256, li304, li400, li703, li704, li999, li1000000, li2000000000, li3344, li3648, li9999, li10000, li32767, lm1]
    rw [if_neg e1, if_neg e1, e2, nI_add, nI_add, mrm_N (by omega) (by omega) (by omega), c_inside h hI (by omega), x_guestsIn t hI (by omega), mob_sm, mob_sm]
    by_cases q : sIn (tw_m t) ((r + 7) % 8) = nI 0
    · rw [if_pos q, if_pos q]
      exact ih n _ (c + 1) (by omega) (by omega) (by omega) (by omega)
    · rw [if_neg q, if_neg q]
      exact ⟨none, (fun k e => nomatch e), rfl, rfl⟩
theorem o_pass (h : RW w (tw_m t)) (hI : Inv (tw_m t)) (sh : Kp) (p q : Int32) : EXX cdI (fX1_pass sh w p q) (fX6_pass t p q) t := by
  unfold fX1_pass fX6_pass fX1_stepsBy fX6_round
  simp only [li0, li1, li2, li3, li4, li5, li6, li7, li8, li9, li10, li11, li12, li13, li14, li15, li16, li20, li24, li26, li30, li31, li32, li40, li41, li43, li48, li50, li52, li57, li59, li60, li62, li64, li65, li66, li67, li97, li99, li100, li122, li236, li239, li240, li255, li254, li256, li304, li400, li703, li704, li999, li1000000, li2000000000, li3344, li3648, li9999, li10000, li32767, lm1, mjn_e, mlt_e]
  rw [c_roomAt, c_roomAt, x_isRoom, x_isRoom, mob_sm, mob_sm]
  cases hr : rin p (nI 0) (nI 7)
  · simp only [Bool.false_eq_true, if_false, if_true, mox_r, mox_l, mob_sm, mo2_sm, bz_f, bz_t, twg_thrown_thrown, twg_thrown_m, t_le00, t_lt00, t_eq00, t_le10, t_lt10, t_eq10, t_le20, t_lt20, t_eq20, t_le30, t_lt30, t_eq30, t_lt01, t_lt02, t_lt03]
    exact EXX.no cdI_I _ (by decide +kernel)
  · cases hr2 : rin q (nI 0) (nI 7)
    · simp only [Bool.false_eq_true, if_false, if_true, mox_r, mox_l, mob_sm, mo2_sm, bz_f, bz_t, twg_thrown_thrown, twg_thrown_m, t_le00, t_lt00, t_eq00, t_le10, t_lt10, t_eq10, t_le20, t_lt20, t_eq20, t_le30, t_lt30, t_eq30, t_lt01, t_lt02, t_lt03]
      exact EXX.no cdI_I _ (by decide +kernel)
    · obtain ⟨r, hr', rfl⟩ := rin_N (by omega) hr
      obtain ⟨to, hto, rfl⟩ := rin_N (by omega) hr2
      obtain ⟨o1, ho1, e1, e1'⟩ := b_steps1 (t := tw_s_thrown t (nI 0)) h hI (show to < 8 by omega) _ mFU r 0 (by omega) rfl (by unfold mFU; omega) (by omega)
      obtain ⟨o2, ho2, e2, e2'⟩ := b_steps7 (t := tw_s_thrown t (nI 0)) h hI (show to < 8 by omega) _ mFU r 0 (by omega) rfl (by unfold mFU; omega) (by omega)
      simp only [Bool.false_eq_true, if_false, if_true, mox_r, mox_l, mob_sm, mo2_sm, bz_f, bz_t, twg_thrown_thrown, twg_thrown_m, t_le00, t_lt00, t_eq00, t_le10, t_lt10, t_eq10, t_le20, t_lt20, t_eq20, t_le30, t_lt30, t_eq30, t_lt01, t_lt02, t_lt03]
      rw [e1, e1', e2, e2']
      simp only [mob_sm]
      rw [x_lesser]
      simp only [mob_sm]
      cases o1 with
      | none =>
        cases o2 with
        | none =>
          simp only [stp_n, stp_s]
          rw [zmnN (by omega) (by omega), zmnN (by omega) (by omega), show min 1000000 1000000 = 1000000 by omega, show min 2000000000 2000000000 = 2000000000 by omega, if_neg (nI_nlt (by omega) (by omega)), if_pos rfl]
          exact EXX.ok (EX.mk _ _)
        | some b =>
          have hb := ho2 b rfl
          simp only [stp_n, stp_s]
          rw [zmnN (by omega) (by omega), zmnN (by omega) (by omega), show min 1000000 b = b by omega, show min 2000000000 b = b by omega, if_pos (nI_lt (by omega) (by omega)), if_neg (fun q => by have := (nI_eq (by omega) (by omega)).mp q; omega)]
          exact EXX.ok (EX.mk _ _)
      | some a =>
        have ha := ho1 a rfl
        cases o2 with
        | none =>
          simp only [stp_n, stp_s]
          rw [zmnN (by omega) (by omega), zmnN (by omega) (by omega), show min a 1000000 = a by omega, show min a 2000000000 = a by omega, if_pos (nI_lt (by omega) (by omega)), if_neg (fun q => by have := (nI_eq (by omega) (by omega)).mp q; omega)]
          exact EXX.ok (EX.mk _ _)
        | some b =>
          have hb := ho2 b rfl
          simp only [stp_n, stp_s]
          rw [zmnN (by omega) (by omega), if_pos (nI_lt (by omega) (by omega)), if_neg (fun q => by have := (nI_eq (by omega) (by omega)).mp q; omega)]
          exact EXX.ok (EX.mk _ _)
/-! rests -/
def sHost (b : Bool) (x y : Int32) : Int32 := if x = nI 1 then nI 0 else if b = true then (if y = nI 0 then -nI 20 else nI 10) else nI 10
def sGuest (wi : Int32) (b : Bool) (x y : Int32) : Int32 := if y = nI 1 then nI 0 else if b = true then (if x = nI 0 then wi else -nI 3) else -nI 3
theorem x_host (b : Bool) (x y : Int32) : fX6_hostHas t b x y = some (sHost b x y) := by
  unfold fX6_hostHas sHost
  simp only [li0, li1, li2, li3, li4, li5, li6, li7, li8, li9, li10, li11, li12, li13, li14, li15, li16, li20, li24, li26, li30, li31, li32, li40, li41, li43, li48, li50, li52, li57, li59, li60, li62, li64, li65, li66, li67, li97, li99, li100, li122, li236, li239, li240, li255, li254, li256, li304, li400, li703, li704, li999, li1000000, li2000000000, li3344, li3648, li9999, li10000, li32767, lm1]
  by_cases h : x = nI 1
  · rw [if_pos h, if_pos h]
  · rw [if_neg h, if_neg h]
    cases b
    · rfl
    · by_cases h2 : y = nI 0 <;> simp [h2]
theorem c_host (sh : Kp) (b : Bool) (x y : Int32) : fX1_hostHas sh w b x y = some (sHost b x y) := by
  unfold fX1_hostHas sHost
  simp only [li0, li1, li2, li3, li4, li5, li6, li7, li8, li9, li10, li11, li12, li13, li14, li15, li16, li20, li24, li26, li30, li31, li32, li40, li41, li43, li48, li50, li52, li57, li59, li60, li62, li64, li65, li66, li67, li97, li99, li100, li122, li236, li239, li240, li255, li254, li256, li304, li400, li703, li704, li999, li1000000, li2000000000, li3344, li3648, li9999, li10000, li32767, lm1]
  by_cases h : x = nI 1
  · rw [if_pos h, if_pos h]
  · rw [if_neg h, if_neg h]
    cases b
    · rfl
    · by_cases h2 : y = nI 0 <;> simp [h2]
theorem x_guestHas {g : Nat} (hg : g < 8) (b : Bool) (x y : Int32) : fX6_guestHas t (nI g) b x y = some (sGuest (tw_m t (24 + 5 * g + 1)) b x y) := by
  unfold fX6_guestHas sGuest
  simp only [li0, li1, li2, li3, li4, li5, li6, li7, li8, li9, li10, li11, li12, li13, li14, li15, li16, li20, li24, li26, li30, li31, li32, li40, li41, li43, li48, li50, li52, li57, li59, li60, li62, li64, li65, li66, li67, li97, li99, li100, li122, li236, li239, li240, li255, li254, li256, li304, li400, li703, li704, li999, li1000000, li2000000000, li3344, li3648, li9999, li10000, li32767, lm1]
  rw [x_of t hg (by omega), mob_sm]
  by_cases h : y = nI 1
  · rw [if_pos h, if_pos h]
  · rw [if_neg h, if_neg h]
    cases b
    · rfl
    · by_cases h2 : x = nI 0 <;> simp [h2]
theorem c_guestHas {m : Nat → Int32} (h : RW w m) (sh : Kp) {g : Nat} (hg : g < 8) (b : Bool) (x y : Int32) : fX1_guestHas sh w (nI g) b x y = some (sGuest (m (24 + 5 * g + 1)) b x y) := by
  unfold fX1_guestHas sGuest
  simp only [li0, li1, li2, li3, li4, li5, li6, li7, li8, li9, li10, li11, li12, li13, li14, li15, li16, li20, li24, li26, li30, li31, li32, li40, li41, li43, li48, li50, li52, li57, li59, li60, li62, li64, li65, li66, li67, li97, li99, li100, li122, li236, li239, li240, li255, li254, li256, li304, li400, li703, li704, li999, li1000000, li2000000000, li3344, li3648, li9999, li10000, li32767, lm1]
  rw [mckN _ hg (by omega), clN (by omega), h.wish hg]
  by_cases h : y = nI 1
  · rw [if_pos h, if_pos h]
  · rw [if_neg h, if_neg h]
    cases b
    · rfl
    · by_cases h2 : x = nI 0 <;> simp [h2]
def restT (wi : Int32) (b : Bool) (x y : Int32) : Bool := !decide (sHost b x y < sHost b (nI 1 - x) y) && !decide (sGuest wi b x y < sGuest wi b x (nI 1 - y))
def restF (wi : Int32) (b : Bool) (k : Nat) (a : Int32) : Int32 := if restT wi b (nI (k / 2)) (nI (k % 2)) = true then a ||| one k else a
theorem o_rests (h : RW w (tw_m t)) (hI : Inv (tw_m t)) (sh : Kp) (p : Int32) : EXX cdI (fX1_rests sh w p) (fX6_rests t p) t := by
  obtain ⟨b, hb, e⟩ := hI 4 7 rfl
  unfold fX1_rests fX6_rests
  simp only [li0, li1, li2, li3, li4, li5, li6, li7, li8, li9, li10, li11, li12, li13, li14, li15, li16, li20, li24, li26, li30, li31, li32, li40, li41, li43, li48, li50, li52, li57, li59, li60, li62, li64, li65, li66, li67, li97, li99, li100, li122, li236, li239, li240, li255, li254, li256, li304, li400, li703, li704, li999, li1000000, li2000000000, li3344, li3648, li9999, li10000, li32767, lm1, mjn_e, mlt_e]
  rw [c_guestAt h, x_isGuest, mob_sm]
  cases hr : rin p (nI 0) (tw_m t 3 - nI 1)
  · simp only [Bool.false_eq_true, if_false, if_true, mox_r, mox_l, mob_sm, mo2_sm, bz_f, bz_t, twg_thrown_thrown, twg_thrown_m, t_le00, t_lt00, t_eq00, t_le10, t_lt10, t_eq10, t_le20, t_lt20, t_eq20, t_le30, t_lt30, t_eq30, t_lt01, t_lt02, t_lt03]
    exact EXX.no cdI_I _ (by decide +kernel)
  · obtain ⟨g, hg, rfl⟩ := rin_G hI hr
    have hg8 : g < 8 := by have := hI.G.2; omega
    have hI' : Inv (tw_m (tw_s_thrown t (nI 0))) := hI
    simp only [Bool.false_eq_true, if_false, if_true, mox_r, mox_l, mob_sm, mo2_sm, bz_f, bz_t, twg_thrown_thrown, twg_thrown_m, t_le00, t_lt00, t_eq00, t_le10, t_lt10, t_eq10, t_le20, t_lt20, t_eq20, t_le30, t_lt30, t_eq30, t_lt01, t_lt02, t_lt03]
    rw [h.bath, e, c_watchers h hI (by omega), x_watchers _ hI' (by omega), mob_sm, mob_sm, c_has _ (by omega), x_isOf _ (by omega), mob_sm, mob_sm, twg_thrown_m]
    refine EXX.ok ?_
    generalize bt (sWatch (tw_m t) b) g = z
    have h2 := loop_p (fun n a i => fX6_rests_L46 (tw_s_thrown t (nI 0)) z (nI g) n a i) (restF (tw_m t (24 + 5 * g + 1)) z) (fun a => some (a, tw_s_thrown t (nI 0))) 4 ?_ ?_ (n := mFU) (by decide) (nI 0)
    have h3 : ∀ x, x < 2 → ∀ (K : Int32 → Option (String ⊕ Int32)) (a : Int32), fX1_rests_L38 K sh w z (nI x) (nI g) mFU a (nI 0) = K (fo (fun y a => restF (tw_m t (24 + 5 * g + 1)) z (2 * x + y) a) 2 a) := by
      intro x hx K a
      refine loop_p (fun n a i => fX1_rests_L38 K sh w z (nI x) (nI g) n a i) (fun y a => restF (tw_m t (24 + 5 * g + 1)) z (2 * x + y) a) K 2 ?_ ?_ (by decide) a
      · intro n a
        simp only [fX1_rests_L38, li0, li1, li2, li3, li4, li5, li6, li7, li8, li9, li10, li11, li12, li13, li14, li15, li16, li20, li24, li26, li30, li31, li32, li40, li41, li43, li48, li50, li52, li57, li59, li60, li62, li64, li65, li66, li67, li97, li99, li100, li122, li236, li239, li240, li255, li254, li256, li304, li400, li703, li704, li999, li1000000, li2000000000, li3344, li3648, li9999, li10000, li32767, lm1]
        rw [if_pos (Int32.le_refl _)]
      · intro n a y hy
        simp only [fX1_rests_L38, li0, li1, li2, li3, li4, li5, li6, li7, li8, li9, li10, li11, li12, li13, li14, li15, li16, li20, li24, li26, li30, li31, li32, li40, li41, li43, li48, li50, li52, li57, li59, li60, li62, li64, li65, li66, li67, li97, li99, li100, li122, li236, li239, li240, li255, li254, li256, li304, li400, li703, li704, li999, li1000000, li2000000000, li3344, li3648, li9999, li10000, li32767, lm1, mlt_e]
        rw [if_neg (nI_ge hy (by omega)), c_host, c_host, c_guestHas h sh hg8, c_guestHas h sh hg8, pk_mul, nI_add, nI_add]
        simp only [mob_sm]
        unfold restF restT one
        rw [show (2 * x + y) / 2 = x by omega, show (2 * x + y) % 2 = y by omega]
        by_cases q1 : sHost z (nI x) (nI y) < sHost z (nI 1 - nI x) (nI y)
        · rw [if_pos q1, decide_eq_true q1]; rfl
        · rw [if_neg q1, decide_eq_false q1]
          by_cases q2 : sGuest (tw_m t (24 + 5 * g + 1)) z (nI x) (nI y) < sGuest (tw_m t (24 + 5 * g + 1)) z (nI x) (nI 1 - nI y)
          · rw [if_pos q2, decide_eq_true q2]; rfl
          · rw [if_neg q2, decide_eq_false q2]; rfl
    have h1 := loop_p (fun n a i => fX1_rests_L29 sh w z (nI g) n a i) (fun x a => fo (fun y a => restF (tw_m t (24 + 5 * g + 1)) z (2 * x + y) a) 2 a) (fun a => some (.inr a)) 2 ?_ ?_ (n := mFU) (by decide) (nI 0)
    · exact ⟨_, h1, h2⟩
    · intro n a
      simp only [fX1_rests_L29, li0, li1, li2, li3, li4, li5, li6, li7, li8, li9, li10, li11, li12, li13, li14, li15, li16, li20, li24, li26, li30, li31, li32, li40, li41, li43, li48, li50, li52, li57, li59, li60, li62, li64, li65, li66, li67, li97, li99, li100, li122, li236, li239, li240, li255, li254, li256, li304, li400, li703, li704, li999, li1000000, li2000000000, li3344, li3648, li9999, li10000, li32767, lm1]
      rw [if_pos (Int32.le_refl _)]
    · intro n a x hx
      simp only [fX1_rests_L29, li0, li1, li2, li3, li4, li5, li6, li7, li8, li9, li10, li11, li12, li13, li14, li15, li16, li20, li24, li26, li30, li31, li32, li40, li41, li43, li48, li50, li52, li57, li59, li60, li62, li64, li65, li66, li67, li97, li99, li100, li122, li236, li239, li240, li255, li254, li256, li304, li400, li703, li704, li999, li1000000, li2000000000, li3344, li3648, li9999, li10000, li32767, lm1, mjn_e]
      rw [if_neg (nI_ge hx (by omega)), h3 x hx, nI_add]
    · intro n a
      simp only [fX6_rests_L46, li0, li1, li2, li3, li4, li5, li6, li7, li8, li9, li10, li11, li12, li13, li14, li15, li16, li20, li24, li26, li30, li31, li32, li40, li41, li43, li48, li50, li52, li57, li59, li60, li62, li64, li65, li66, li67, li97, li99, li100, li122, li236, li239, li240, li255, li254, li256, li304, li400, li703, li704, li999, li1000000, li2000000000, li3344, li3648, li9999, li10000, li32767, lm1]
      rw [if_pos (Int32.le_refl _)]
    · intro n a k hk
      simp only [fX6_rests_L46, li0, li1, li2, li3, li4, li5, li6, li7, li8, li9, li10, li11, li12, li13, li14, li15, li16, li20, li24, li26, li30, li31, li32, li40, li41, li43, li48, li50, li52, li57, li59, li60, li62, li64, li65, li66, li67, li97, li99, li100, li122, li236, li239, li240, li255, li254, li256, li304, li400, li703, li704, li999, li1000000, li2000000000, li3344, li3648, li9999, li10000, li32767, lm1]
      rw [if_neg (nI_ge hk (by omega)), divN (by omega) (by omega) (by omega), mrm_N (by omega) (by omega) (by omega), x_host, x_host, x_guestHas hg8, x_guestHas hg8, nI_add]
      simp only [mob_sm]
      show (if sHost z (nI (k / 2)) (nI (k % 2)) < sHost z (nI 1 - nI (k / 2)) (nI (k % 2)) then _ else if sGuest (tw_m t (24 + 5 * g + 1)) z (nI (k / 2)) (nI (k % 2)) < sGuest (tw_m t (24 + 5 * g + 1)) z (nI (k / 2)) (nI 1 - nI (k % 2)) then _ else _) = _
      unfold restF restT one
      by_cases q1 : sHost z (nI (k / 2)) (nI (k % 2)) < sHost z (nI 1 - nI (k / 2)) (nI (k % 2))
      · rw [if_pos q1, decide_eq_true q1]; rfl
      · rw [if_neg q1, decide_eq_false q1]
        by_cases q2 : sGuest (tw_m t (24 + 5 * g + 1)) z (nI (k / 2)) (nI (k % 2)) < sGuest (tw_m t (24 + 5 * g + 1)) z (nI (k / 2)) (nI 1 - nI (k % 2))
        · rw [if_pos q2, decide_eq_true q2]; rfl
        · rw [if_neg q2, decide_eq_false q2]; rfl
end OPS4
