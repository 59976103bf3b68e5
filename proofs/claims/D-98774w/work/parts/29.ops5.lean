/-! PURE LAWS: questions, fourth part: the log, sets that are searched -/
noncomputable def dcd (P : Prop) : Bool := @decide P (Classical.propDecidable P)
theorem dcd_iff {P : Prop} : dcd P = true ↔ P := by
  unfold dcd
  exact @decide_eq_true_iff P (Classical.propDecidable P)
theorem dcd_t {P : Prop} (h : P) : dcd P = true := dcd_iff.mpr h
theorem dcd_f {P : Prop} (h : ¬ P) : dcd P = false := by
  cases e : dcd P
  · rfl
  · exact absurd (dcd_iff.mp e) h
section OPS5
variable {w : Wd} {t : Tw}
theorem x_logged {k c : Nat} (hk : k < 60) (hc : c < 4) : fX6_logged t (nI k) (nI c) = some (tw_m t (64 + (4 * k + c))) := by
  unfold fX6_logged
  simp only [li0, li1, li2, li3, li4, li5, li6, li7, li8, li9, li10, li11, li12, li13, li14, li15, li16, li20, li24, li26, li30, li31, li32, li40, li41, li43, li48, li50, li52, li57, li59, li60, li62, li64, li65, li66, li67, li97, li99, li100, li122, li236, li239, li240, li255, li254, li256, li304, li400, li703, li704, li999, li1000000, li2000000000, li3344, li3648, li9999, li10000, li32767, lm1]
  rw [pk_mul, nI_add, nI_add, mckN _ (by omega) (by omega), clN (by omega), show 64 + 4 * k + c = 64 + (4 * k + c) by omega]
theorem c_ofLog {m : Nat → Int32} (h : RW w m) (sh : Kp) {k c : Nat} (hk : k < 60) (hc : c < 4) : fX1_ofLog sh w (nI k) (nI c) = some (m (64 + (4 * k + c))) := by
  unfold fX1_ofLog
  simp only [li0, li1, li2, li3, li4, li5, li6, li7, li8, li9, li10, li11, li12, li13, li14, li15, li16, li20, li24, li26, li30, li31, li32, li40, li41, li43, li48, li50, li52, li57, li59, li60, li62, li64, li65, li66, li67, li97, li99, li100, li122, li236, li239, li240, li255, li254, li256, li304, li400, li703, li704, li999, li1000000, li2000000000, li3344, li3648, li9999, li10000, li32767, lm1]
  rw [pk_mul, nI_add, mckN _ (by omega) (by omega), clN (by omega), h.log (by omega)]
theorem b_led (h : RW w (tw_m t)) (sh : Kp) (K : Int32 → Int32 → Option (String ⊕ Int32)) (K' : Int32 → Int32 → Option (Int32 × Tw)) (hK : ∀ a b, EX (K a b) (K' a b) t) (p : Int32) : ∀ (i n : Nat) (a b : Int32), i ≤ 60 → i < n → EX (fX1_led_L21 K sh w p n a b (prd i)) (fX6_led_L42 K' t p n a b (prd i)) t := by
  intro i
  induction i with
  | zero =>
    intro n a b _ hn
    obtain ⟨n, rfl⟩ : ∃ n', n = n' + 1 := ⟨n - 1, by omega⟩
    simp only [fX1_led_L21, fX6_led_L42, li0, li1, li2, li3, li4, li5, li6, li7, li8, li9, li10, li11, li12, li13, li14, li15, li16, li20, li24, li26, li30, li31, li32, li40, li41, li43, li48, li50, li52, li57, li59, li60, li62, li64, li65, li66, li67, li97, li99, li100, li122, li236, li239, li240, li255, li254, li256, li304, li400, li703, li704, li999, li1000000, li2000000000, li3344, li3648, li9999, li10000, li32767, lm1]
    rw [if_pos (show prd 0 < nI 0 from by decide), if_pos (show prd 0 < nI 0 from by decide)]
    exact hK a b
  | succ i ih =>
    intro n a b h60 hn
    obtain ⟨n, rfl⟩ : ∃ n', n = n' + 1 := ⟨n - 1, by omega⟩
    have e1 : ¬ prd (i + 1) < nI 0 := nI_pos (by omega)
    simp only [fX1_led_L21, fX6_led_L42, li0, li1, li2, li3, li4, li5, li6, li7, li8, li9, li10, li11, li12, li13, li14, li15, li16, li20, li24, li26, li30, li31, li32, li40, li41, li43, li48, li50, li52, li57, li59, li60, li62, li64, li65, li66, li67, li97, li99, li100, li122, li236, li239, li240, li255, li254, li256, li304, li400, li703, li704, li999, li1000000, li2000000000, li3344, li3648, li9999, li10000, li32767, lm1]
    rw [if_neg e1, if_neg e1, prd_s, show prd (i + 1) = nI i from rfl, c_ofLog h sh (by omega) (by omega), c_ofLog h sh (by omega) (by omega), x_logged (by omega) (by omega), x_logged (by omega) (by omega)]
    simp only [mob_sm]
    by_cases q : tw_m t (64 + (4 * i + 1)) = p
    · rw [if_pos q, if_pos q]
      exact ih n _ _ (by omega) (by omega)
    · rw [if_neg q, if_neg q]
      exact ih n _ _ (by omega) (by omega)
theorem o_led (h : RW w (tw_m t)) (hI : Inv (tw_m t)) (sh : Kp) (p : Int32) (b : Bool) : EXX cdI (fX1_led sh w p b) (fX6_led t p b) t := by
  obtain ⟨L, hL, e⟩ := hI 14 60 rfl
  unfold fX1_led fX6_led
  simp only [li0, li1, li2, li3, li4, li5, li6, li7, li8, li9, li10, li11, li12, li13, li14, li15, li16, li20, li24, li26, li30, li31, li32, li40, li41, li43, li48, li50, li52, li57, li59, li60, li62, li64, li65, li66, li67, li97, li99, li100, li122, li236, li239, li240, li255, li254, li256, li304, li400, li703, li704, li999, li1000000, li2000000000, li3344, li3648, li9999, li10000, li32767, lm1, mjn_e, mlt_e]
  rw [c_guestAt h, x_isGuest, mob_sm]
  cases hr : rin p (nI 0) (tw_m t 3 - nI 1)
  · simp only [Bool.false_eq_true, if_false, if_true, mox_r, mox_l, mob_sm, mo2_sm, bz_f, bz_t, twg_thrown_thrown, twg_thrown_m, t_le00, t_lt00, t_eq00, t_le10, t_lt10, t_eq10, t_le20, t_lt20, t_eq20, t_le30, t_lt30, t_eq30, t_lt01, t_lt02, t_lt03]
    exact EXX.no cdI_I _ (by decide +kernel)
  · simp only [Bool.false_eq_true, if_false, if_true, mox_r, mox_l, mob_sm, mo2_sm, bz_f, bz_t, twg_thrown_thrown, twg_thrown_m, t_le00, t_lt00, t_eq00, t_le10, t_lt10, t_eq10, t_le20, t_lt20, t_eq20, t_le30, t_lt30, t_eq30, t_lt01, t_lt02, t_lt03]
    rw [h.logged, e, prd_e]
    refine EXX.ok (b_led (t := tw_s_thrown t (nI 0)) h sh _ _ (fun a c => ?_) p L mFU _ _ hL (by unfold mFU; omega))
    cases b
    · exact EX.mk _ _
    · exact EX.mk _ _
theorem o_log (h : RW w (tw_m t)) (hI : Inv (tw_m t)) (sh : Kp) (p q : Int32) : EXX cdN (fX1_log sh w p q) (fX6_log t p q) t := by
  unfold fX1_log fX6_log
  simp only [li0, li1, li2, li3, li4, li5, li6, li7, li8, li9, li10, li11, li12, li13, li14, li15, li16, li20, li24, li26, li30, li31, li32, li40, li41, li43, li48, li50, li52, li57, li59, li60, li62, li64, li65, li66, li67, li97, li99, li100, li122, li236, li239, li240, li255, li254, li256, li304, li400, li703, li704, li999, li1000000, li2000000000, li3344, li3648, li9999, li10000, li32767, lm1, mjn_e, mlt_e]
  rw [c_question, x_in, mob_sm]
  cases hr : rin q (nI 0) (nI 3)
  · simp only [Bool.false_eq_true, if_false, if_true, mox_r, mox_l, mob_sm, mo2_sm, bz_f, bz_t, twg_thrown_thrown, twg_thrown_m, t_le00, t_lt00, t_eq00, t_le10, t_lt10, t_eq10, t_le20, t_lt20, t_eq20, t_le30, t_lt30, t_eq30, t_lt01, t_lt02, t_lt03]
    exact EXX.no cdN_N _ (by decide +kernel)
  · obtain ⟨c, hc, rfl⟩ := rin_N (by omega) hr
    simp only [Bool.false_eq_true, if_false, if_true, mox_r, mox_l, mob_sm, mo2_sm, bz_f, bz_t, twg_thrown_thrown, twg_thrown_m, t_le00, t_lt00, t_eq00, t_le10, t_lt10, t_eq10, t_le20, t_lt20, t_eq20, t_le30, t_lt30, t_eq30, t_lt01, t_lt02, t_lt03]
    rw [c_in', h.logged, x_in]
    simp only [Bool.false_eq_true, if_false, if_true, mox_r, mox_l, mob_sm, mo2_sm, bz_f, bz_t, twg_thrown_thrown, twg_thrown_m, t_le00, t_lt00, t_eq00, t_le10, t_lt10, t_eq10, t_le20, t_lt20, t_eq20, t_le30, t_lt30, t_eq30, t_lt01, t_lt02, t_lt03]
    cases hr2 : rin p (nI 0) (tw_m t 14 - nI 1)
    · exact EXX.ok (EX.mk _ _)
    · obtain ⟨k, hk, rfl, h60⟩ := rin_L (hI 14 60 rfl) (by omega) hr2
      rw [if_pos rfl, if_pos rfl, c_ofLog h sh (by omega) (by omega), x_logged (by omega) (by omega), mob_sm, mob_sm, twg_thrown_m]
      exact EXX.ok (EX.mk _ _)
/-! the fewest to be sent away -/
def sub_ (x h : Int32) : Bool := decide (x &&& (h ^^^ nM) = nI 0)
theorem bt_not (x : Int32) {i : Nat} (hi : i < 32) : bt (x ^^^ nM) i = !bt x i := by
  rw [b_xor, show bt nM i = true from b_m1 i hi]
  cases bt x i <;> rfl
theorem sub_iff (x h : Int32) : sub_ x h = true ↔ ∀ i, i < 32 → bt x i = true → bt h i = true := by
  unfold sub_
  rw [decide_eq_true_iff]
  constructor
  · intro e i hi hx
    have h1 : bt (x &&& (h ^^^ nM)) i = false := by rw [e]; exact bt_0 i
    rw [b_and, bt_not h hi, hx] at h1
    simpa using h1
  · intro e
    apply b_ext
    intro i hi
    rw [b_and, bt_not h hi, bt_0]
    cases hx : bt x i
    · rfl
    · rw [e i hi hx]; rfl
theorem bt_nI {j i : Nat} : bt (nI j) i = (decide (i < 32) && j.testBit i) := by
  unfold bt
  show (BitVec.ofNat 32 j).getLsbD i = _
  rw [BitVec.getLsbD_ofNat]
theorem sub_le {a b : Nat} (ha : a < 2 ^ 31) (hs : sub_ (nI a) (nI b) = true) : a ≤ b := by
  have h := (sub_iff _ _).mp hs
  have e : a &&& b = a := by
    apply Nat.eq_of_testBit_eq
    intro i
    rw [Nat.testBit_and]
    rcases Nat.lt_or_ge i 32 with q | q
    · have h1 := h i q
      rw [bt_nI, bt_nI, decide_eq_true q, Bool.true_and, Bool.true_and] at h1
      cases z : a.testBit i
      · rfl
      · rw [h1 z]; rfl
    · rw [Nat.testBit_lt_two_pow (Nat.lt_of_lt_of_le ha (Nat.pow_le_pow_right (by omega) (by omega)))]; rfl
  calc a = a &&& b := e.symm
    _ ≤ b := Nat.and_le_right
/-- one set is looked at -/
def sentF (m : Nat → Int32) (wa q : Int32) (i : Nat) (a : Int32) : Int32 :=
  if sub_ (nI i) (sOnes m) = true ∧ ¬ q < sOdds m (wa &&& (nI i ^^^ nM)) ∧ (a = nM ∨ bc (nI i) < bc a) then nI i else a
theorem sent_sub {m : Nat → Int32} (hI : Inv m) {i : Nat} (hi : i < 2 ^ gN m) : sub_ (nI i) (sOnes m) = dcd (∀ j, 0 ≤ j → j < gN m → bt (nI i) j = true → sHere m j = true) := by
  have hG := hI.G.2
  rw [Bool.eq_iff_iff, sub_iff, dcd_iff]
  constructor
  · intro h j _ hj hb
    have h1 := h j (by omega) hb
    unfold sOnes at h1
    rw [bt_bs (by omega), decide_eq_true hj, Bool.true_and] at h1
    exact h1
  · intro h j hj hb
    have hj2 : j < gN m := by
      rcases Nat.lt_or_ge j (gN m) with q | q
      · exact q
      · rw [bt_nI, Nat.testBit_lt_two_pow (Nat.lt_of_lt_of_le hi (Nat.pow_le_pow_right (by omega) q)), Bool.and_false] at hb
        exact nomatch hb
    unfold sOnes
    rw [bt_bs (by omega), decide_eq_true hj2, Bool.true_and]
    exact h j (Nat.zero_le _) hj2 hb
theorem bc_le {x y : Int32} : ¬ bc y ≤ bc x ↔ bc x < bc y := Int32.not_le
theorem x_sent2 (hI : Inv (tw_m t)) (K : Bool → Option (Int32 × Tw)) (x : Int32) : ∀ k n g b, g + k = gN (tw_m t) → k < n → fX6_sent_L85 t K x n b (nI g) = K (b && dcd (∀ j, g ≤ j → j < gN (tw_m t) → bt x j = true → sHere (tw_m t) j = true)) := by
  obtain ⟨hG, hG8⟩ := hI.G
  intro k
  induction k with
  | zero =>
    intro n g b hg hn
    obtain ⟨n, rfl⟩ : ∃ n', n = n' + 1 := ⟨n - 1, by omega⟩
    simp only [fX6_sent_L85]
    have : g = gN (tw_m t) := by omega
    rw [hG, this, if_pos (Int32.le_refl _), dcd_t (fun j h1 h2 => by omega), Bool.and_true]
  | succ k ih =>
    intro n g b hg hn
    obtain ⟨n, rfl⟩ : ∃ n', n = n' + 1 := ⟨n - 1, by omega⟩
    simp only [fX6_sent_L85, li0, li1, li2, li3, li4, li5, li6, li7, li8, li9, li10, li11, li12, li13, li14, li15, li16, li20, li24, li26, li30, li31, li32, li40, li41, li43, li48, li50, li52, li57, li59, li60, li62, li64, li65, li66, li67, li97, li99, li100, li122, li236, li239, li240, li255, li254, li256, li304, li400, li703, li704, li999, li1000000, li2000000000, li3344, li3648, li9999, li10000, li32767, lm1]
    rw [hG, if_neg (nI_ge (by omega) (by omega)), x_isOf _ (by omega), mob_sm, x_isHere t (by omega), mob_sm, nI_add, ih n (g + 1) true (by omega) (by omega), ih n (g + 1) false (by omega) (by omega), Bool.true_and, Bool.false_and]
    cases b
    · rfl
    · rw [if_pos rfl, Bool.true_and]
      have step : ∀ (c : Bool), (bt x g = true → sHere (tw_m t) g = true) → dcd (∀ j, g ≤ j → j < gN (tw_m t) → bt x j = true → sHere (tw_m t) j = true) = dcd (∀ j, g + 1 ≤ j → j < gN (tw_m t) → bt x j = true → sHere (tw_m t) j = true) := by
        intro c hc
        rw [Bool.eq_iff_iff, dcd_iff, dcd_iff]
        constructor
        · exact fun h j h1 h2 h3 => h j (by omega) h2 h3
        · intro h j h1 h2 h3
          rcases Nat.lt_or_ge g j with q | q
          · exact h j q h2 h3
          · have : j = g := by omega
            subst this
            exact hc h3
      cases q1 : bt x g
      · rw [if_neg (by decide), step true (fun z => by rw [q1] at z; exact nomatch z)]
      · rw [if_pos rfl]
        cases q2 : sHere (tw_m t) g
        · rw [if_neg (by decide), dcd_f (fun h => by have := h g (Nat.le_refl _) (by omega) q1; rw [q2] at this; exact nomatch this)]
        · rw [if_pos rfl, step true (fun _ => q2)]
theorem x_sent (hI : Inv (tw_m t)) (wa q : Int32) : fX6_sent_L45 t wa q mFU nM (nI 0) = some (fo (sentF (tw_m t) wa q) (2 ^ gN (tw_m t)) nM, t) := by
  obtain ⟨hG, hG8⟩ := hI.G
  have hp : 2 ^ gN (tw_m t) ≤ 256 := Nat.pow_le_pow_right (n := 2) (by omega) hG8
  have hone : nI 1 <<< (nI (gN (tw_m t)) &&& nI 31) = nI (2 ^ gN (tw_m t)) := (by decide +kernel : ∀ g, g ≤ 8 → nI 1 <<< (nI g &&& nI 31) = nI (2 ^ g)) _ hG8
  refine (loop_f (fun n a i => fX6_sent_L45 t wa q n a i) (sentF (tw_m t) wa q) (fun a => some (a, t)) (2 ^ gN (tw_m t)) (fun _ a => a = nM ∨ ∃ f, f < 256 ∧ a = nI f) ?_ ?_ ?_ (by unfold mFU; omega) nM (Or.inl rfl)).1
  · intro g x hg hx
    unfold sentF
    split
    · exact Or.inr ⟨g, by omega, rfl⟩
    · exact hx
  · intro n a _
    simp only [fX6_sent_L45, li0, li1, li2, li3, li4, li5, li6, li7, li8, li9, li10, li11, li12, li13, li14, li15, li16, li20, li24, li26, li30, li31, li32, li40, li41, li43, li48, li50, li52, li57, li59, li60, li62, li64, li65, li66, li67, li97, li99, li100, li122, li236, li239, li240, li255, li254, li256, li304, li400, li703, li704, li999, li1000000, li2000000000, li3344, li3648, li9999, li10000, li32767, lm1]
    rw [hG, hone, if_pos (Int32.le_refl _)]
  · intro n a i hi ha
    simp only [fX6_sent_L45, li0, li1, li2, li3, li4, li5, li6, li7, li8, li9, li10, li11, li12, li13, li14, li15, li16, li20, li24, li26, li30, li31, li32, li40, li41, li43, li48, li50, li52, li57, li59, li60, li62, li64, li65, li66, li67, li97, li99, li100, li122, li236, li239, li240, li255, li254, li256, li304, li400, li703, li704, li999, li1000000, li2000000000, li3344, li3648, li9999, li10000, li32767, lm1, mjn_e]
    rw [hG, hone, if_neg (nI_ge hi (by omega)), x_sent2 hI _ _ (gN (tw_m t)) mFU 0 true (by omega) (by unfold mFU; omega), x_sent2 hI _ _ (gN (tw_m t)) mFU 0 false (by omega) (by unfold mFU; omega), ← sent_sub hI hi, Bool.true_and, Bool.false_and, x_oddsOf t hI, x_bits, x_bits, nI_add]
    simp only [mob_sm]
    unfold sentF
    by_cases q0 : sub_ (nI i) (sOnes (tw_m t)) = true
    · rw [q0]
      by_cases q1 : q < sOdds (tw_m t) (wa &&& (nI i ^^^ nM))
      · have e : ¬ (true = true ∧ ¬ q < sOdds (tw_m t) (wa &&& (nI i ^^^ nM)) ∧ (a = nM ∨ bc (nI i) < bc a)) := fun z => z.2.1 q1
        rw [if_neg e, if_pos rfl, if_pos q1]
        by_cases q2 : a = nM
        · rw [if_pos q2]
        · rw [if_neg q2]
          split <;> rfl
      · rw [if_pos rfl, if_neg q1]
        by_cases q2 : a = nM
        · rw [if_pos q2, if_pos ⟨rfl, q1, Or.inl q2⟩]
        · rw [if_neg q2]
          by_cases q3 : bc a ≤ bc (nI i)
          · have e : ¬ (true = true ∧ ¬ q < sOdds (tw_m t) (wa &&& (nI i ^^^ nM)) ∧ (a = nM ∨ bc (nI i) < bc a)) := fun z => z.2.2.elim q2 (fun z => bc_le.mpr z q3)
            rw [if_pos q3, if_neg e]; rfl
          · rw [if_neg q3, if_pos ⟨rfl, q1, Or.inr (bc_le.mp q3)⟩]
    · have e : ¬ (sub_ (nI i) (sOnes (tw_m t)) = true ∧ ¬ q < sOdds (tw_m t) (wa &&& (nI i ^^^ nM)) ∧ (a = nM ∨ bc (nI i) < bc a)) := fun z => q0 z.1
      rw [if_neg e, Bool.eq_false_iff.mpr q0]
      by_cases q2 : a = nM
      · rw [if_pos q2]; rfl
      · rw [if_neg q2]
        split <;> rfl
theorem c_sent (h : RW w (tw_m t)) (hI : Inv (tw_m t)) (sh : Kp) (wa q : Int32) {hv : Nat} (hh : sOnes (tw_m t) = nI hv) (h255 : hv ≤ 255) : fX1_sent_L40 (nI hv) sh w wa q mFU nM (nI 0) = some (.inr (fo (sentF (tw_m t) wa q) (hv + 1) nM)) := by
  refine (loop_f (fun n a i => fX1_sent_L40 (nI hv) sh w wa q n a i) (sentF (tw_m t) wa q) (fun a => some (.inr a)) (hv + 1) (fun _ a => a = nM ∨ ∃ f, f < 256 ∧ a = nI f) ?_ ?_ ?_ (by unfold mFU; omega) nM (Or.inl rfl)).1
  · intro g x hg hx
    unfold sentF
    split
    · exact Or.inr ⟨g, by omega, rfl⟩
    · exact hx
  · intro n a _
    simp only [fX1_sent_L40, li0, li1, li2, li3, li4, li5, li6, li7, li8, li9, li10, li11, li12, li13, li14, li15, li16, li20, li24, li26, li30, li31, li32, li40, li41, li43, li48, li50, li52, li57, li59, li60, li62, li64, li65, li66, li67, li97, li99, li100, li122, li236, li239, li240, li255, li254, li256, li304, li400, li703, li704, li999, li1000000, li2000000000, li3344, li3648, li9999, li10000, li32767, lm1]
    rw [if_pos (nI_lt (by omega) (by omega))]
  · intro n a i hi ha
    simp only [fX1_sent_L40, li0, li1, li2, li3, li4, li5, li6, li7, li8, li9, li10, li11, li12, li13, li14, li15, li16, li20, li24, li26, li30, li31, li32, li40, li41, li43, li48, li50, li52, li57, li59, li60, li62, li64, li65, li66, li67, li97, li99, li100, li122, li236, li239, li240, li255, li254, li256, li304, li400, li703, li704, li999, li1000000, li2000000000, li3344, li3648, li9999, li10000, li32767, lm1]
    rw [if_neg (nI_nlt (by omega) (by omega)), c_oddsOf h hI, nI_add, c_bits (isN_n (show i ≤ 255 by omega))]
    simp only [mob_sm]
    unfold sentF sub_
    rw [hh]
    by_cases q0 : nI i &&& (nI hv ^^^ nM) = nI 0
    · rw [if_pos q0]
      by_cases q1 : q < sOdds (tw_m t) (wa &&& (nI i ^^^ nM))
      · rw [if_pos q1, if_neg (fun z => z.2.1 q1)]
      · rw [if_neg q1]
        by_cases q2 : a = nM
        · rw [if_pos q2, if_pos ⟨decide_eq_true q0, q1, Or.inl q2⟩]
        · rw [if_neg q2]
          obtain ⟨f, hf, rfl⟩ := ha.resolve_left q2
          rw [c_bits (isN_n (show f ≤ 255 by omega)), mob_sm]
          by_cases q3 : bc (nI f) ≤ bc (nI i)
          · rw [if_pos q3, if_neg (fun z => z.2.2.elim q2 (fun z => bc_le.mpr z q3))]
          · rw [if_neg q3, if_pos ⟨decide_eq_true q0, q1, Or.inr (bc_le.mp q3)⟩]
    · rw [if_neg q0, if_neg (fun z => q0 (of_decide_eq_true z.1))]
theorem fo_more {α : Type} {F : Nat → α → α} {n : Nat} (k : Nat) (x : α) (h : ∀ i y, n ≤ i → i < n + k → F i y = y) : fo F (n + k) x = fo F n x := by
  induction k with
  | zero => rfl
  | succ k ih =>
    show F (n + k) (fo F (n + k) x) = _
    rw [h _ _ (by omega) (by omega), ih (fun i y h1 h2 => h i y h1 (by omega))]
theorem o_sent (h : RW w (tw_m t)) (hI : Inv (tw_m t)) (sh : Kp) (p : Int32) : EXX cdA (fX1_sent sh w p) (fX6_sent t p) t := by
  obtain ⟨b, hb, e⟩ := hI 4 7 rfl
  unfold fX1_sent fX6_sent
  simp only [li0, li1, li2, li3, li4, li5, li6, li7, li8, li9, li10, li11, li12, li13, li14, li15, li16, li20, li24, li26, li30, li31, li32, li40, li41, li43, li48, li50, li52, li57, li59, li60, li62, li64, li65, li66, li67, li97, li99, li100, li122, li236, li239, li240, li255, li254, li256, li304, li400, li703, li704, li999, li1000000, li2000000000, li3344, li3648, li9999, li10000, li32767, lm1, mjn_e, mlt_e]
  rw [c_in', x_in, mob_sm, mob_sm, c_demand]
  cases hr : rin p (nI 0) (nI 9999)
  · simp only [Bool.false_eq_true, if_false, if_true, mox_r, mox_l, mob_sm, mo2_sm, bz_f, bz_t, twg_thrown_thrown, twg_thrown_m, t_le00, t_lt00, t_eq00, t_le10, t_lt10, t_eq10, t_le20, t_lt20, t_eq20, t_le30, t_lt30, t_eq30, t_lt01, t_lt02, t_lt03]
    exact EXX.no cdA_A _ (by decide +kernel)
  · obtain ⟨hv, h255, hh⟩ := sOnes_N hI
    have hI' : Inv (tw_m (tw_s_thrown t (nI 0))) := hI
    have h3 : (2 : Nat) ^ gN (tw_m t) ≤ 256 := Nat.pow_le_pow_right (n := 2) (by omega) hI.G.2
    have hlt : hv < 2 ^ gN (tw_m t) := by
      have h1 : isN (sOnes (tw_m t)) (2 ^ gN (tw_m t) - 1) := isN_bs (Nat.le_refl _) (by have := hI.G.2; omega)
      obtain ⟨j, hj, ej⟩ := h1
      have h2 := Nat.two_pow_pos (gN (tw_m t))
      have := (nI_eq (by omega) (by omega)).mp (hh.symm.trans ej)
      omega
    simp only [Bool.false_eq_true, if_false, if_true, mox_r, mox_l, mob_sm, mo2_sm, bz_f, bz_t, twg_thrown_thrown, twg_thrown_m, t_le00, t_lt00, t_eq00, t_le10, t_lt10, t_eq10, t_le20, t_lt20, t_eq20, t_le30, t_lt30, t_eq30, t_lt01, t_lt02, t_lt03]
    rw [h.bath, e, c_watchers h hI (by omega), x_watchers _ hI' (by omega), mob_sm, mob_sm, c_hereOnes h hI, mob_sm, hh, c_sent h hI sh _ _ hh h255, x_sent hI', twg_thrown_m]
    refine EXX.ok ⟨_, rfl, ?_⟩
    rw [show 2 ^ gN (tw_m t) = (hv + 1) + (2 ^ gN (tw_m t) - (hv + 1)) by omega, fo_more]
    intro i y h1 h2
    unfold sentF
    rw [hh, if_neg]
    intro z
    have := sub_le (by omega) z.1
    omega
/-! the fewest rooms to be shut -/
noncomputable def sShut (m : Nat → Int32) (x : Int32) : Bool := dcd (∀ r, 0 ≤ r → r < 8 → bt x r = true ∨ m (16 + r) &&& (x ^^^ nM) = nI 0)
theorem x_shuts (x : Int32) : fX6_shuts t x = some (sShut (tw_m t) x) := by
  have key : ∀ k n g, g + k = 8 → k < n → fX6_shuts_L2 x t n (nI g) = some (dcd (∀ r, g ≤ r → r < 8 → bt x r = true ∨ tw_m t (16 + r) &&& (x ^^^ nM) = nI 0)) := by
    intro k
    induction k with
    | zero =>
      intro n g hg hn
      obtain ⟨n, rfl⟩ : ∃ n', n = n' + 1 := ⟨n - 1, by omega⟩
      have : g = 8 := by omega
      subst this
      simp only [fX6_shuts_L2, li0, li1, li2, li3, li4, li5, li6, li7, li8, li9, li10, li11, li12, li13, li14, li15, li16, li20, li24, li26, li30, li31, li32, li40, li41, li43, li48, li50, li52, li57, li59, li60, li62, li64, li65, li66, li67, li97, li99, li100, li122, li236, li239, li240, li255, li254, li256, li304, li400, li703, li704, li999, li1000000, li2000000000, li3344, li3648, li9999, li10000, li32767, lm1]
      rw [if_pos (Int32.le_refl _), dcd_t (fun j h1 h2 => by omega)]
    | succ k ih =>
      intro n g hg hn
      obtain ⟨n, rfl⟩ : ∃ n', n = n' + 1 := ⟨n - 1, by omega⟩
      simp only [fX6_shuts_L2, li0, li1, li2, li3, li4, li5, li6, li7, li8, li9, li10, li11, li12, li13, li14, li15, li16, li20, li24, li26, li30, li31, li32, li40, li41, li43, li48, li50, li52, li57, li59, li60, li62, li64, li65, li66, li67, li97, li99, li100, li122, li236, li239, li240, li255, li254, li256, li304, li400, li703, li704, li999, li1000000, li2000000000, li3344, li3648, li9999, li10000, li32767, lm1]
      rw [if_neg (nI_ge (by omega) (by omega)), x_isOf _ (by omega), mob_sm, nI_add, nI_add, mckN _ (by omega) (by omega), clN (by omega), ih n (g + 1) (by omega) (by omega)]
      have step : (bt x g = true ∨ tw_m t (16 + g) &&& (x ^^^ nM) = nI 0) → dcd (∀ r, g ≤ r → r < 8 → bt x r = true ∨ tw_m t (16 + r) &&& (x ^^^ nM) = nI 0) = dcd (∀ r, g + 1 ≤ r → r < 8 → bt x r = true ∨ tw_m t (16 + r) &&& (x ^^^ nM) = nI 0) := by
        intro hc
        rw [Bool.eq_iff_iff, dcd_iff, dcd_iff]
        constructor
        · exact fun h j h1 h2 => h j (by omega) h2
        · intro h j h1 h2
          rcases Nat.lt_or_ge g j with q | q
          · exact h j q h2
          · have : j = g := by omega
            subst this
            exact hc
      by_cases q1 : bt x g = true
      · rw [if_pos q1, step (Or.inl q1)]
      · rw [if_neg q1]
        by_cases q2 : tw_m t (16 + g) &&& (x ^^^ nM) = nI 0
        · rw [if_pos q2, step (Or.inr q2)]
        · rw [if_neg q2, dcd_f]
          exact fun h => (h g (Nat.le_refl _) (by omega)).elim q1 q2
  exact key 8 mFU 0 (by omega) (by decide)
theorem c_areShut {m : Nat → Int32} (h : RW w m) (sh : Kp) (x : Int32) : fX1_areShut sh w x = some (sShut m x) := by
  have key : ∀ k n g, g + k = 8 → k < n → fX1_areShut_L2 x w n (nI g) = some (dcd (∀ r, g ≤ r → r < 8 → bt x r = true ∨ m (16 + r) &&& (x ^^^ nM) = nI 0)) := by
    intro k
    induction k with
    | zero =>
      intro n g hg hn
      obtain ⟨n, rfl⟩ : ∃ n', n = n' + 1 := ⟨n - 1, by omega⟩
      have : g = 8 := by omega
      subst this
      simp only [fX1_areShut_L2, li0, li1, li2, li3, li4, li5, li6, li7, li8, li9, li10, li11, li12, li13, li14, li15, li16, li20, li24, li26, li30, li31, li32, li40, li41, li43, li48, li50, li52, li57, li59, li60, li62, li64, li65, li66, li67, li97, li99, li100, li122, li236, li239, li240, li255, li254, li256, li304, li400, li703, li704, li999, li1000000, li2000000000, li3344, li3648, li9999, li10000, li32767, lm1]
      rw [if_pos (Int32.le_refl _), dcd_t (fun j h1 h2 => by omega)]
    | succ k ih =>
      intro n g hg hn
      obtain ⟨n, rfl⟩ : ∃ n', n = n' + 1 := ⟨n - 1, by omega⟩
      simp only [fX1_areShut_L2, li0, li1, li2, li3, li4, li5, li6, li7, li8, li9, li10, li11, li12, li13, li14, li15, li16, li20, li24, li26, li30, li31, li32, li40, li41, li43, li48, li50, li52, li57, li59, li60, li62, li64, li65, li66, li67, li97, li99, li100, li122, li236, li239, li240, li255, li254, li256, li304, li400, li703, li704, li999, li1000000, li2000000000, li3344, li3648, li9999, li10000, li32767, lm1]
      rw [if_neg (nI_ge (by omega) (by omega)), c_has _ (by omega), mob_sm, nI_add, mckN _ (by omega) (by omega), clN (by omega), h.holes (by omega), ih n (g + 1) (by omega) (by omega)]
      have step : (bt x g = true ∨ m (16 + g) &&& (x ^^^ nM) = nI 0) → dcd (∀ r, g ≤ r → r < 8 → bt x r = true ∨ m (16 + r) &&& (x ^^^ nM) = nI 0) = dcd (∀ r, g + 1 ≤ r → r < 8 → bt x r = true ∨ m (16 + r) &&& (x ^^^ nM) = nI 0) := by
        intro hc
        rw [Bool.eq_iff_iff, dcd_iff, dcd_iff]
        constructor
        · exact fun h j h1 h2 => h j (by omega) h2
        · intro h j h1 h2
          rcases Nat.lt_or_ge g j with q | q
          · exact h j q h2
          · have : j = g := by omega
            subst this
            exact hc
      by_cases q1 : bt x g = true
      · rw [if_pos q1, step (Or.inl q1)]
      · rw [if_neg q1]
        by_cases q2 : m (16 + g) &&& (x ^^^ nM) = nI 0
        · rw [if_pos q2, step (Or.inr q2)]
        · rw [if_neg q2, dcd_f]
          exact fun h => (h g (Nat.le_refl _) (by omega)).elim q1 q2
  exact key 8 mFU 0 (by omega) (by decide)
def bN (j : Nat) : Nat := (bc (nI j)).toNatClampNeg
theorem bN_e {j : Nat} (hj : j ≤ 255) : bc (nI j) = nI (bN j) ∧ bN j ≤ 8 := (bc_N (isN_n hj)).cl (by omega)
theorem sShut_255 (m : Nat → Int32) : sShut m (nI 255) = true := by
  unfold sShut
  rw [dcd_iff]
  intro r _ hr
  left
  exact (by decide +kernel : ∀ r, r < 8 → bt (nI 255) r = true) r hr
def shutBest (m : Nat → Int32) (lo hi f : Nat) : Prop := sShut m (nI f) = true ∧ f ≤ 255 ∧ ∀ s, lo ≤ s → s < hi → sShut m (nI s) = true → bN f < bN s ∨ (bN f = bN s ∧ f ≤ s)
theorem c_shut {m : Nat → Int32} (h : RW w m) (sh : Kp) : ∃ f, shutBest m 0 256 f ∧ fX1_shut sh w = some (nI f) := by
  unfold fX1_shut
  simp only [li0, li1, li2, li3, li4, li5, li6, li7, li8, li9, li10, li11, li12, li13, li14, li15, li16, li20, li24, li26, li30, li31, li32, li40, li41, li43, li48, li50, li52, li57, li59, li60, li62, li64, li65, li66, li67, li97, li99, li100, li122, li236, li239, li240, li255, li254, li256, li304, li400, li703, li704, li999, li1000000, li2000000000, li3344, li3648, li9999, li10000, li32767, lm1]
  have key : ∀ (i n f : Nat), i ≤ 255 → i < n → shutBest m i 256 f → ∃ f', shutBest m 0 256 f' ∧ fX1_shut_L8 sh w n (nI f) (prd i) = some (nI f') := by
    intro i
    induction i with
    | zero =>
      intro n f _ hn hf
      obtain ⟨n, rfl⟩ : ∃ n', n = n' + 1 := ⟨n - 1, by omega⟩
      simp only [fX1_shut_L8, li0, li1, li2, li3, li4, li5, li6, li7, li8, li9, li10, li11, li12, li13, li14, li15, li16, li20, li24, li26, li30, li31, li32, li40, li41, li43, li48, li50, li52, li57, li59, li60, li62, li64, li65, li66, li67, li97, li99, li100, li122, li236, li239, li240, li255, li254, li256, li304, li400, li703, li704, li999, li1000000, li2000000000, li3344, li3648, li9999, li10000, li32767, lm1]
      rw [if_pos (show prd 0 < nI 0 from by decide)]
      exact ⟨f, hf, rfl⟩
    | succ i ih =>
      intro n f hi hn hf
      obtain ⟨n, rfl⟩ : ∃ n', n = n' + 1 := ⟨n - 1, by omega⟩
      have e1 : ¬ prd (i + 1) < nI 0 := nI_pos (by omega)
      simp only [fX1_shut_L8, li0, li1, li2, li3, li4, li5, li6, li7, li8, li9, li10, li11, li12, li13, li14, li15, li16, li20, li24, li26, li30, li31, li32, li40, li41, li43, li48, li50, li52, li57, li59, li60, li62, li64, li65, li66, li67, li97, li99, li100, li122, li236, li239, li240, li255, li254, li256, li304, li400, li703, li704, li999, li1000000, li2000000000, li3344, li3648, li9999, li10000, li32767, lm1]
      rw [if_neg e1, prd_s, show prd (i + 1) = nI i from rfl, c_bits (isN_n (show i ≤ 255 by omega)), c_bits (isN_n hf.2.1), mob_sm, mob_sm, c_areShut h, mob_sm, (bN_e (show i ≤ 255 by omega)).1, (bN_e hf.2.1).1]
      have e2 : (nI (bN f) < nI (bN i)) ↔ bN f < bN i := nI_ltI (by have := (bN_e hf.2.1).2; omega) (by have := (bN_e (show i ≤ 255 by omega)).2; omega)
      by_cases q : bN f < bN i
      · rw [if_pos (e2.mpr q)]
        refine ih n f (by omega) (by omega) ⟨hf.1, hf.2.1, fun s h1 h2 h3 => ?_⟩
        rcases Nat.lt_or_ge i s with z | z
        · exact hf.2.2 s z h2 h3
        · have : s = i := by omega
          subst this
          exact Or.inl q
      · rw [if_neg (fun z => q (e2.mp z))]
        cases q2 : sShut m (nI i)
        · rw [if_neg (by decide)]
          refine ih n f (by omega) (by omega) ⟨hf.1, hf.2.1, fun s h1 h2 h3 => ?_⟩
          rcases Nat.lt_or_ge i s with z | z
          · exact hf.2.2 s z h2 h3
          · have : s = i := by omega
            subst this
            rw [q2] at h3
            exact nomatch h3
        · rw [if_pos rfl]
          refine ih n i (by omega) (by omega) ⟨q2, by omega, fun s h1 h2 h3 => ?_⟩
          rcases Nat.lt_or_ge i s with z | z
          · have := hf.2.2 s z h2 h3
            omega
          · have : s = i := by omega
            subst this
            exact Or.inr ⟨rfl, Nat.le_refl _⟩
  refine key 255 mFU 255 (by omega) (by unfold mFU; omega) ⟨sShut_255 m, by omega, fun s h1 h2 h3 => ?_⟩
  have : s = 255 := by omega
  subst this
  exact Or.inr ⟨rfl, Nat.le_refl _⟩
theorem x_shut : ∃ f, shutBest (tw_m t) 0 256 f ∧ fX6_shut t = some (nI f, tw_s_thrown t 0) := by
  unfold fX6_shut
  rw [mlt_e]
  simp only [li0, li1, li2, li3, li4, li5, li6, li7, li8, li9, li10, li11, li12, li13, li14, li15, li16, li20, li24, li26, li30, li31, li32, li40, li41, li43, li48, li50, li52, li57, li59, li60, li62, li64, li65, li66, li67, li97, li99, li100, li122, li236, li239, li240, li255, li254, li256, li304, li400, li703, li704, li999, li1000000, li2000000000, li3344, li3648, li9999, li10000, li32767, lm1]
  have key : ∀ (k n i : Nat) (a : Int32), i + k = 256 → k < n → ((a = nM ∧ ∀ s, s < i → sShut (tw_m t) (nI s) = false) ∨ ∃ f, f < i ∧ a = nI f ∧ shutBest (tw_m t) 0 i f) → ∃ f, shutBest (tw_m t) 0 256 f ∧ fX6_shut_L9 (tw_s_thrown t (nI 0)) n a (nI i) = some (nI f, tw_s_thrown t 0) := by
    intro k
    induction k with
    | zero =>
      intro n i a hi hn ha
      obtain ⟨n, rfl⟩ : ∃ n', n = n' + 1 := ⟨n - 1, by omega⟩
      have : i = 256 := by omega
      subst this
      simp only [fX6_shut_L9, li0, li1, li2, li3, li4, li5, li6, li7, li8, li9, li10, li11, li12, li13, li14, li15, li16, li20, li24, li26, li30, li31, li32, li40, li41, li43, li48, li50, li52, li57, li59, li60, li62, li64, li65, li66, li67, li97, li99, li100, li122, li236, li239, li240, li255, li254, li256, li304, li400, li703, li704, li999, li1000000, li2000000000, li3344, li3648, li9999, li10000, li32767, lm1]
      rw [if_pos (Int32.le_refl _)]
      rcases ha with ⟨rfl, h⟩ | ⟨f, hfi, rfl, hf⟩
      · have := h 255 (by omega)
        rw [sShut_255] at this
        exact nomatch this
      · exact ⟨f, hf, rfl⟩
    | succ k ih =>
      intro n i a hi hn ha
      obtain ⟨n, rfl⟩ : ∃ n', n = n' + 1 := ⟨n - 1, by omega⟩
      simp only [fX6_shut_L9, li0, li1, li2, li3, li4, li5, li6, li7, li8, li9, li10, li11, li12, li13, li14, li15, li16, li20, li24, li26, li30, li31, li32, li40, li41, li43, li48, li50, li52, li57, li59, li60, li62, li64, li65, li66, li67, li97, li99, li100, li122, li236, li239, li240, li255, li254, li256, li304, li400, li703, li704, li999, li1000000, li2000000000, li3344, li3648, li9999, li10000, li32767, lm1]
      rw [if_neg (nI_ge (by omega) (by omega)), nI_add, x_shuts, x_bits, x_bits]
      simp only [mob_sm]
      show ∃ f, _ ∧ (if a = nM then (if sShut (tw_m t) (nI i) = true then _ else _) else if bc a ≤ bc (nI i) then _ else (if sShut (tw_m t) (nI i) = true then _ else _)) = _
      have put : sShut (tw_m t) (nI i) = true → (∀ f, a = nI f → shutBest (tw_m t) 0 i f → bN i < bN f) → ((a = nM ∧ ∀ s, s < i → sShut (tw_m t) (nI s) = false) ∨ ∃ f, f < i ∧ a = nI f ∧ shutBest (tw_m t) 0 i f) → shutBest (tw_m t) 0 (i + 1) i := by
        intro h1 h2 h3
        refine ⟨h1, by omega, fun s _ h5 h6 => ?_⟩
        rcases Nat.lt_or_ge s i with z | z
        · rcases h3 with ⟨_, h⟩ | ⟨f, hfi, e, hf⟩
          · rw [h s z] at h6; exact nomatch h6
          · have := h2 f e hf
            have := hf.2.2 s (by omega) z h6
            omega
        · have : s = i := by omega
          subst this
          exact Or.inr ⟨rfl, Nat.le_refl _⟩
      by_cases q : a = nM
      · rw [if_pos q]
        cases q2 : sShut (tw_m t) (nI i)
        · rw [if_neg (by decide)]
          refine ih n (i + 1) a (by omega) (by omega) ?_
          rcases ha with ⟨e, h⟩ | ⟨f, hfi, rfl, hf⟩
          · refine Or.inl ⟨e, fun s hs => ?_⟩
            rcases Nat.lt_or_ge s i with z | z
            · exact h s z
            · have : s = i := by omega
              subst this
              exact q2
          · exact absurd q (nM_ne (by have := hf.2.1; omega))
        · rw [if_pos rfl]
          refine ih n (i + 1) _ (by omega) (by omega) (Or.inr ⟨i, by omega, rfl, put q2 (fun f e hf => absurd (e.symm.trans q) (nM_ne (by have := hf.2.1; omega))) ha⟩)
      · rw [if_neg q]
        obtain ⟨f, hfi, rfl, hf⟩ := ha.resolve_left (fun z => q z.1)
        have b1 := bN_e (show i ≤ 255 by omega)
        have b2 := bN_e hf.2.1
        rw [b1.1, b2.1]
        have e2 : (nI (bN f) ≤ nI (bN i)) ↔ bN f ≤ bN i := nI_leI (by omega) (by omega)
        by_cases q3 : bN f ≤ bN i
        · rw [if_pos (e2.mpr q3)]
          refine ih n (i + 1) _ (by omega) (by omega) (Or.inr ⟨f, by omega, rfl, hf.1, hf.2.1, fun s h1 h2 h3 => ?_⟩)
          rcases Nat.lt_or_ge s i with z | z
          · exact hf.2.2 s h1 z h3
          · have : s = i := by omega
            subst this
            omega
        · rw [if_neg (fun z => q3 (e2.mp z))]
          cases q2 : sShut (tw_m t) (nI i)
          · rw [if_neg (by decide)]
            refine ih n (i + 1) _ (by omega) (by omega) (Or.inr ⟨f, by omega, rfl, hf.1, hf.2.1, fun s h1 h2 h3 => ?_⟩)
            rcases Nat.lt_or_ge s i with z | z
            · exact hf.2.2 s h1 z h3
            · have : s = i := by omega
              subst this
              rw [q2] at h3
              exact nomatch h3
          · rw [if_pos rfl]
            refine ih n (i + 1) _ (by omega) (by omega) (Or.inr ⟨i, by omega, rfl, put q2 (fun f' e hf' => ?_) (Or.inr ⟨f, hfi, rfl, hf⟩)⟩)
            have := (nI_eq (by have := hf.2.1; omega) (by have := hf'.2.1; omega)).mp e
            subst this
            omega
  exact key 256 mFU 0 nM (by omega) (by unfold mFU; omega) (Or.inl ⟨rfl, fun s hs => absurd hs (by omega)⟩)
theorem o_shut (h : RW w (tw_m t)) (sh : Kp) : ER (fX1_shut sh w) (fX6_shut t) (tw_s_thrown t 0) := by
  obtain ⟨f, hf, e⟩ := c_shut h sh
  obtain ⟨g, hg, e'⟩ := x_shut (t := t)
  have h1 := hf.2.2 g (by omega) (by have := hg.2.1; omega) hg.1
  have h2 := hg.2.2 f (by omega) (by have := hf.2.1; omega) hf.1
  have : f = g := by omega
  subst this
  exact ⟨nI f, e, e'⟩
end OPS5
