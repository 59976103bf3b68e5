/-! PURE LAWS: a world of the component and the row; the component's leaves -/
def RW (w : Wd) (m : Nat → Int32) : Prop :=
  (wd_texts w = m 0 ∧ wd_guests w = m 3 ∧ wd_bath w = m 4 ∧ wd_kept w = m 5 ∧ wd_masons w = m 6 ∧ wd_stones w = m 7 ∧ wd_towers w = m 8 ∧ wd_bore w = m 9 ∧ wd_day w = m 10 ∧ wd_seen w = m 11 ∧ wd_logged w = m 14 ∧ wd_seed w = m 15) ∧
  (∀ c, c < 2 → wd_shift w c = m (12 + c)) ∧
  (∀ g, g < 8 → wd_room w g = m (24 + 5 * g + 0) ∧ wd_wish w g = m (24 + 5 * g + 1) ∧ wd_doubt w g = m (24 + 5 * g + 2) ∧ bz (wd_key w g) = m (24 + 5 * g + 3) ∧ bz (wd_here w g) = m (24 + 5 * g + 4)) ∧
  (∀ r, r < 8 → wd_holes w r = m (16 + r)) ∧ (∀ j, j < 240 → wd_log w j = m (64 + j))
section RWs
variable {w : Wd} {m : Nat → Int32}
theorem RW.texts (h : RW w m) : wd_texts w = m 0 := h.1.1
theorem RW.guests (h : RW w m) : wd_guests w = m 3 := h.1.2.1
theorem RW.bath (h : RW w m) : wd_bath w = m 4 := h.1.2.2.1
theorem RW.kept (h : RW w m) : wd_kept w = m 5 := h.1.2.2.2.1
theorem RW.masons (h : RW w m) : wd_masons w = m 6 := h.1.2.2.2.2.1
theorem RW.stones (h : RW w m) : wd_stones w = m 7 := h.1.2.2.2.2.2.1
theorem RW.towers (h : RW w m) : wd_towers w = m 8 := h.1.2.2.2.2.2.2.1
theorem RW.bore (h : RW w m) : wd_bore w = m 9 := h.1.2.2.2.2.2.2.2.1
theorem RW.day (h : RW w m) : wd_day w = m 10 := h.1.2.2.2.2.2.2.2.2.1
theorem RW.seen (h : RW w m) : wd_seen w = m 11 := h.1.2.2.2.2.2.2.2.2.2.1
theorem RW.logged (h : RW w m) : wd_logged w = m 14 := h.1.2.2.2.2.2.2.2.2.2.2.1
theorem RW.seed (h : RW w m) : wd_seed w = m 15 := h.1.2.2.2.2.2.2.2.2.2.2.2
theorem RW.shift (h : RW w m) {c : Nat} (hc : c < 2) : wd_shift w c = m (12 + c) := h.2.1 c hc
theorem RW.room (h : RW w m) {g : Nat} (hg : g < 8) : wd_room w g = m (24 + 5 * g + 0) := (h.2.2.1 g hg).1
theorem RW.wish (h : RW w m) {g : Nat} (hg : g < 8) : wd_wish w g = m (24 + 5 * g + 1) := (h.2.2.1 g hg).2.1
theorem RW.doubt (h : RW w m) {g : Nat} (hg : g < 8) : wd_doubt w g = m (24 + 5 * g + 2) := (h.2.2.1 g hg).2.2.1
theorem RW.keyz (h : RW w m) {g : Nat} (hg : g < 8) : bz (wd_key w g) = m (24 + 5 * g + 3) := (h.2.2.1 g hg).2.2.2.1
theorem RW.herez (h : RW w m) {g : Nat} (hg : g < 8) : bz (wd_here w g) = m (24 + 5 * g + 4) := (h.2.2.1 g hg).2.2.2.2
theorem RW.holes (h : RW w m) {r : Nat} (hr : r < 8) : wd_holes w r = m (16 + r) := h.2.2.2.1 r hr
theorem RW.log (h : RW w m) {j : Nat} (hj : j < 240) : wd_log w j = m (64 + j) := h.2.2.2.2 j hj
theorem RW.key (h : RW w m) {g : Nat} (hg : g < 8) : wd_key w g = sKey m g := by
  unfold sKey
  rw [← h.keyz hg, Bool.eq_iff_iff, decide_eq_true_iff]
  exact (bz_one _).symm
theorem RW.here (h : RW w m) {g : Nat} (hg : g < 8) : wd_here w g = sHere m g := by
  unfold sHere
  rw [← h.herez hg, Bool.eq_iff_iff, decide_eq_true_iff]
  exact (bz_one _).symm
def sSpies (m : Nat → Int32) (r : Nat) (key : Bool) : Int32 := if key = true then (one r ||| m (16 + r)) ||| (one ((r + 1) % 8) ||| one ((r + 7) % 8)) else (one r ||| m (16 + r)) ||| nI 0
theorem bt_spies (m : Nat → Int32) {r q : Nat} (hr : r < 8) (hq : q < 8) (key : Bool) : bt (sSpies m r key) q = sFrom m r key q := by
  have e : decide ((r + 7) % 8 = q) = decide ((q + 1) % 8 = r) := (by decide +kernel : ∀ r, r < 8 → ∀ q, q < 8 → decide ((r + 7) % 8 = q) = decide ((q + 1) % 8 = r)) r hr q hq
  unfold sSpies sFrom
  cases key
  · rw [if_neg (by decide), b_or, b_or, bt_one (by omega), bt_0, Bool.or_false, Bool.false_and, Bool.or_false]
  · rw [if_pos rfl, b_or, b_or, b_or, bt_one (by omega), bt_one (by omega), bt_one (by omega), e, Bool.true_and, Bool.or_assoc]
theorem bt_spies_hi {m : Nat → Int32} (hI : Inv m) {r i : Nat} (hr : r < 8) (hi : 8 ≤ i) (key : Bool) : bt (sSpies m r key) i = false := by
  have h1 : bt (m (16 + r)) i = false := bt_hi (n := 8) (hI.holes hr) (by omega) hi
  unfold sSpies
  cases key
  · rw [if_neg (by decide), b_or, b_or, bt_one (by omega), bt_0, h1, decide_eq_false (by omega)]; rfl
  · rw [if_pos rfl, b_or, b_or, b_or, bt_one (by omega), bt_one (by omega), bt_one (by omega), h1, decide_eq_false (by omega), decide_eq_false (by omega), decide_eq_false (by omega)]; rfl
theorem c_spies (h : RW w m) {r : Nat} (hr : r < 8) (key : Bool) : fX2_spies w (nI r) key = some (sSpies m r key) := by
  unfold fX2_spies sSpies one
  simp only [li0, li1, li2, li3, li4, li5, li6, li7, li8, li9, li10, li11, li12, li13, li14, li15, li16, li20, li24, li26, li30, li31, li32, li40, li41, li43, li48, li50, li52, li57, li59, li60, li62, li64, li65, li66, li67, li97, li99, li100, li122, li236, li239, li240, li255, li254, li256, li304, li400, li703, li704, li999, li1000000, li2000000000, li3344, li3648, li9999, li10000, li32767, lm1]
  rw [mckN _ hr (by omega), clN (by omega), h.holes hr, nI_add, nI_add, pk_sub (by omega), mrm_N (by omega) (by omega) (by omega), mrm_N (by omega) (by omega) (by omega), show r + 8 - 1 = r + 7 by omega]
  cases key <;> rfl
theorem c_sees (h : RW w m) (hI : Inv m) {g q : Nat} (hg : g < 8) (hq : q < 8) : fX2_sees w (nI g) (nI q) = some (sSees m g q) := by
  unfold fX2_sees sSees
  have hr := hI.rm hg
  rw [mckN _ hg (by omega), mckN _ hg (by omega), clN (by omega), h.room hg, hr.1, h.key hg, c_spies h (by omega), mob_sm, c_has _ (by omega), mob_sm, bt_spies m (by omega) hq]
theorem c_isSat (h : RW w m) {c : Nat} (hc : c < 2) (d : Int32) : fX2_isSaturday w (nI c) d = some (sSat m c d) := by
  unfold fX2_isSaturday sSat
  simp only [li0, li1, li2, li3, li4, li5, li6, li7, li8, li9, li10, li11, li12, li13, li14, li15, li16, li20, li24, li26, li30, li31, li32, li40, li41, li43, li48, li50, li52, li57, li59, li60, li62, li64, li65, li66, li67, li97, li99, li100, li122, li236, li239, li240, li255, li254, li256, li304, li400, li703, li704, li999, li1000000, li2000000000, li3344, li3648, li9999, li10000, li32767, lm1]
  rw [mckN _ hc (by omega), clN (by omega), h.shift hc, ite_tf]
theorem c_risk (h : RW w m) {g : Nat} (hg : g < 8) : fX2_risk w (nI g) = some (sRisk m g) := by
  unfold fX2_risk sRisk
  simp only [li0, li1, li2, li3, li4, li5, li6, li7, li8, li9, li10, li11, li12, li13, li14, li15, li16, li20, li24, li26, li30, li31, li32, li40, li41, li43, li48, li50, li52, li57, li59, li60, li62, li64, li65, li66, li67, li97, li99, li100, li122, li236, li239, li240, li255, li254, li256, li304, li400, li703, li704, li999, li1000000, li2000000000, li3344, li3648, li9999, li10000, li32767, lm1]
  rw [mckN _ hg (by omega), mckN _ hg (by omega), mckN _ hg (by omega), clN (by omega), h.doubt hg, h.wish hg]
  split <;> rfl
theorem c_watchers (h : RW w m) (hI : Inv m) {q : Nat} (hq : q < 8) : fX2_watchers w (nI q) = some (sWatch m q) := by
  obtain ⟨hG, hG8⟩ := hI.G
  unfold fX2_watchers sWatch bs
  refine loop_p (fun n a i => fX2_watchers_L4 w (nI q) n a i) (fun g a => a ||| ob (sHere m g && sSees m g q) g) some (gN m) ?_ ?_ (by unfold mFU; omega) (nI 0)
  · intro n a
    simp only [fX2_watchers_L4]
    rw [h.guests, hG, if_pos (Int32.le_refl _)]
  · intro n a g hg
    simp only [fX2_watchers_L4, li0, li1, li2, li3, li4, li5, li6, li7, li8, li9, li10, li11, li12, li13, li14, li15, li16, li20, li24, li26, li30, li31, li32, li40, li41, li43, li48, li50, li52, li57, li59, li60, li62, li64, li65, li66, li67, li97, li99, li100, li122, li236, li239, li240, li255, li254, li256, li304, li400, li703, li704, li999, li1000000, li2000000000, li3344, li3648, li9999, li10000, li32767, lm1]
    rw [h.guests, hG, if_neg (nI_ge hg (by omega)), mckN _ (by omega) (by omega), clN (by omega), h.here (by omega), c_sees h hI (by omega) hq, mob_sm, nI_add]
    unfold ob one
    cases sHere m g <;> cases sSees m g q <;> rfl
theorem c_inside (h : RW w m) (hI : Inv m) {q : Nat} (hq : q < 8) : fX2_inside w (nI q) = some (sIn m q) := by
  obtain ⟨hG, hG8⟩ := hI.G
  unfold fX2_inside sIn bs
  refine loop_p (fun n a i => fX2_inside_L4 w (nI q) n a i) (fun g a => a ||| ob (sHere m g && decide (sRm m g = q)) g) some (gN m) ?_ ?_ (by unfold mFU; omega) (nI 0)
  · intro n a
    simp only [fX2_inside_L4]
    rw [h.guests, hG, if_pos (Int32.le_refl _)]
  · intro n a g hg
    have hr := hI.rm (show g < 8 by omega)
    have e3 : (nI (sRm m g) = nI q) ↔ (sRm m g = q) := nI_eq (by omega) (by omega)
    simp only [fX2_inside_L4, li0, li1, li2, li3, li4, li5, li6, li7, li8, li9, li10, li11, li12, li13, li14, li15, li16, li20, li24, li26, li30, li31, li32, li40, li41, li43, li48, li50, li52, li57, li59, li60, li62, li64, li65, li66, li67, li97, li99, li100, li122, li236, li239, li240, li255, li254, li256, li304, li400, li703, li704, li999, li1000000, li2000000000, li3344, li3648, li9999, li10000, li32767, lm1]
    rw [h.guests, hG, if_neg (nI_ge hg (by omega)), mckN _ (by omega) (by omega), mckN _ (by omega) (by omega), clN (by omega), h.here (by omega), h.room (by omega), hr.1, nI_add]
    simp only [e3]
    unfold ob one
    cases sHere m g
    · rfl
    · by_cases h : sRm m g = q <;> simp [h]
theorem c_hereOnes (h : RW w m) (hI : Inv m) : fX2_hereOnes w = some (sOnes m) := by
  obtain ⟨hG, hG8⟩ := hI.G
  unfold fX2_hereOnes sOnes bs
  refine loop_p (fun n a i => fX2_hereOnes_L4 w n a i) (fun g a => a ||| ob (sHere m g) g) some (gN m) ?_ ?_ (by unfold mFU; omega) (nI 0)
  · intro n a
    simp only [fX2_hereOnes_L4]
    rw [h.guests, hG, if_pos (Int32.le_refl _)]
  · intro n a g hg
    simp only [fX2_hereOnes_L4, li0, li1, li2, li3, li4, li5, li6, li7, li8, li9, li10, li11, li12, li13, li14, li15, li16, li20, li24, li26, li30, li31, li32, li40, li41, li43, li48, li50, li52, li57, li59, li60, li62, li64, li65, li66, li67, li97, li99, li100, li122, li236, li239, li240, li255, li254, li256, li304, li400, li703, li704, li999, li1000000, li2000000000, li3344, li3648, li9999, li10000, li32767, lm1]
    rw [h.guests, hG, if_neg (nI_ge hg (by omega)), mckN _ (by omega) (by omega), clN (by omega), h.here (by omega), nI_add]
    unfold ob one
    cases sHere m g <;> rfl
theorem c_into (h : RW w m) {q : Nat} (hq : q < 8) : fX2_into w (nI q) = some (sInto m q) := by
  unfold fX2_into sInto bs
  refine loop_p (fun n a i => fX2_into_L4 w (nI q) n a i) (fun r a => a ||| ob (bt (m (16 + r)) q) r) some 8 ?_ ?_ (by decide) (nI 0)
  · intro n a
    simp only [fX2_into_L4, li0, li1, li2, li3, li4, li5, li6, li7, li8, li9, li10, li11, li12, li13, li14, li15, li16, li20, li24, li26, li30, li31, li32, li40, li41, li43, li48, li50, li52, li57, li59, li60, li62, li64, li65, li66, li67, li97, li99, li100, li122, li236, li239, li240, li255, li254, li256, li304, li400, li703, li704, li999, li1000000, li2000000000, li3344, li3648, li9999, li10000, li32767, lm1]
    rw [if_pos (Int32.le_refl _)]
  · intro n a g hg
    simp only [fX2_into_L4, li0, li1, li2, li3, li4, li5, li6, li7, li8, li9, li10, li11, li12, li13, li14, li15, li16, li20, li24, li26, li30, li31, li32, li40, li41, li43, li48, li50, li52, li57, li59, li60, li62, li64, li65, li66, li67, li97, li99, li100, li122, li236, li239, li240, li255, li254, li256, li304, li400, li703, li704, li999, li1000000, li2000000000, li3344, li3648, li9999, li10000, li32767, lm1]
    rw [if_neg (nI_ge hg (by omega)), mckN _ (by omega) (by omega), clN (by omega), h.holes hg, c_has _ (by omega), mob_sm, nI_add]
    unfold ob one
    cases bt (m (16 + g)) q <;> rfl
theorem c_allHoles (h : RW w m) (hI : Inv m) : fX2_allHoles w = some (sHoles m) := by
  unfold fX2_allHoles sHoles
  refine loop_p (fun n a i => fX2_allHoles_L4 w n a i) (fun r a => a + bc (m (16 + r))) some 8 ?_ ?_ (by decide) (nI 0)
  · intro n a
    simp only [fX2_allHoles_L4, li0, li1, li2, li3, li4, li5, li6, li7, li8, li9, li10, li11, li12, li13, li14, li15, li16, li20, li24, li26, li30, li31, li32, li40, li41, li43, li48, li50, li52, li57, li59, li60, li62, li64, li65, li66, li67, li97, li99, li100, li122, li236, li239, li240, li255, li254, li256, li304, li400, li703, li704, li999, li1000000, li2000000000, li3344, li3648, li9999, li10000, li32767, lm1]
    rw [if_pos (Int32.le_refl _)]
  · intro n a g hg
    simp only [fX2_allHoles_L4, li0, li1, li2, li3, li4, li5, li6, li7, li8, li9, li10, li11, li12, li13, li14, li15, li16, li20, li24, li26, li30, li31, li32, li40, li41, li43, li48, li50, li52, li57, li59, li60, li62, li64, li65, li66, li67, li97, li99, li100, li122, li236, li239, li240, li255, li254, li256, li304, li400, li703, li704, li999, li1000000, li2000000000, li3344, li3648, li9999, li10000, li32767, lm1]
    rw [if_neg (nI_ge hg (by omega)), mckN _ (by omega) (by omega), clN (by omega), h.holes hg, c_bits (hI.holes hg), mob_sm, nI_add]
theorem c_doubtOfAll (h : RW w m) (hI : Inv m) : fX2_doubtOfAll w = some (sDoubts m) := by
  obtain ⟨hG, hG8⟩ := hI.G
  unfold fX2_doubtOfAll sDoubts
  refine loop_p (fun n a i => fX2_doubtOfAll_L4 w n a i) (fun g a => a + (if sHere m g = true then m (24 + 5 * g + 2) else nI 0)) some (gN m) ?_ ?_ (by unfold mFU; omega) (nI 0)
  · intro n a
    simp only [fX2_doubtOfAll_L4]
    rw [h.guests, hG, if_pos (Int32.le_refl _)]
  · intro n a g hg
    simp only [fX2_doubtOfAll_L4, li0, li1, li2, li3, li4, li5, li6, li7, li8, li9, li10, li11, li12, li13, li14, li15, li16, li20, li24, li26, li30, li31, li32, li40, li41, li43, li48, li50, li52, li57, li59, li60, li62, li64, li65, li66, li67, li97, li99, li100, li122, li236, li239, li240, li255, li254, li256, li304, li400, li703, li704, li999, li1000000, li2000000000, li3344, li3648, li9999, li10000, li32767, lm1]
    rw [h.guests, hG, if_neg (nI_ge hg (by omega)), mckN _ (by omega) (by omega), mckN _ (by omega) (by omega), clN (by omega), h.here (by omega), h.doubt (by omega), nI_add]
    cases sHere m g <;> rfl
theorem c_riskOf (h : RW w m) (hI : Inv m) (sh : Kp) (set : Int32) : fX1_riskOf sh w set = some (sRisks m set) := by
  obtain ⟨hG, hG8⟩ := hI.G
  unfold fX1_riskOf sRisks
  refine loop_p (fun n a i => fX1_riskOf_L4 w set n a i) (fun g a => a + (if bt set g = true then sRisk m g else nI 0)) some (gN m) ?_ ?_ (by unfold mFU; omega) (nI 0)
  · intro n a
    simp only [fX1_riskOf_L4]
    rw [h.guests, hG, if_pos (Int32.le_refl _)]
  · intro n a g hg
    simp only [fX1_riskOf_L4, li0, li1, li2, li3, li4, li5, li6, li7, li8, li9, li10, li11, li12, li13, li14, li15, li16, li20, li24, li26, li30, li31, li32, li40, li41, li43, li48, li50, li52, li57, li59, li60, li62, li64, li65, li66, li67, li97, li99, li100, li122, li236, li239, li240, li255, li254, li256, li304, li400, li703, li704, li999, li1000000, li2000000000, li3344, li3648, li9999, li10000, li32767, lm1]
    rw [h.guests, hG, if_neg (nI_ge hg (by omega)), c_has _ (by omega), mob_sm, c_risk h (by omega), mob_sm, nI_add]
    cases bt set g <;> rfl
theorem c_oddsOf (h : RW w m) (hI : Inv m) (sh : Kp) (set : Int32) : fX1_oddsOf sh w set = some (sOdds m set) := by
  obtain ⟨hG, hG8⟩ := hI.G
  unfold fX1_oddsOf
  rw [mjn_e]
  have h9 := loop_p (fun n (a : Int64 × Int64) i => fX1_oddsOf_L8 w (fun x2 x4 => mnl x4 <| some ((10000 * (x4 - x2) / x4).toInt32)) set n a.2 a.1 i) (sOddsF m set) (fun a => mnl a.1 <| some ((10000 * (a.1 - a.2) / a.1).toInt32)) (gN m) ?_ ?_ (n := mFU) (by unfold mFU; omega) (1, 1)
  · refine h9.trans ?_
    rw [mnl_e _ (sOdds_ne _ _ hG8), Int64.mul_comm]
    rfl
  · intro n a
    simp only [fX1_oddsOf_L8]
    rw [h.guests, hG, if_pos (Int32.le_refl _)]
  · intro n a g hg
    simp only [fX1_oddsOf_L8, li0, li1, li2, li3, li4, li5, li6, li7, li8, li9, li10, li11, li12, li13, li14, li15, li16, li20, li24, li26, li30, li31, li32, li40, li41, li43, li48, li50, li52, li57, li59, li60, li62, li64, li65, li66, li67, li97, li99, li100, li122, li236, li239, li240, li255, li254, li256, li304, li400, li703, li704, li999, li1000000, li2000000000, li3344, li3648, li9999, li10000, li32767, lm1]
    rw [h.guests, hG, if_neg (nI_ge hg (by omega)), c_has _ (by omega), mob_sm, c_risk h (by omega), mob_sm, nI_add]
    unfold sOddsF
    cases bt set g <;> rfl
end RWs
