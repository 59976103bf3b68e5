/-! PURE LAWS: the row, its ranges; the reference's leaves -/
def rng (k : Nat) : Option Nat :=
  if k = 0 then some 12 else if k = 3 then some 8 else if k = 4 then some 7 else if k = 5 then some 1 else if k = 6 then some 9 else if k = 7 then some 9999 else if k = 8 then some 9999 else if k = 9 then some 100 else if k = 10 then some 9999 else if k = 12 then some 6 else if k = 13 then some 6 else if k = 14 then some 60
  else if 16 ≤ k ∧ k < 24 then some 255
  else if 24 ≤ k ∧ k < 64 then (if k % 5 = 4 then some 7 else if k % 5 = 0 then some 10 else if k % 5 = 1 then some 99 else some 1)
  else none
def Inv (m : Nat → Int32) : Prop := ∀ k n, rng k = some n → isN (m k) n
theorem Inv.upd {m : Nat → Int32} (h : Inv m) (k : Nat) (v : Int32) (hv : ∀ n, rng k = some n → isN v n) : Inv (upd m k v) := by
  intro j n hj
  by_cases q : j = k
  · subst q; rw [upd_s]; exact hv n hj
  · rw [upd_n q]; exact h j n hj
theorem Inv.congr {m m' : Nat → Int32} (h : Inv m) (he : ∀ k, k < 64 → m' k = m k) : Inv m' := by
  intro k n hk
  have : k < 64 := by
    unfold rng at hk
    by_cases q : k < 64
    · exact q
    · exfalso
      rw [if_neg (by omega), if_neg (by omega), if_neg (by omega), if_neg (by omega), if_neg (by omega), if_neg (by omega), if_neg (by omega), if_neg (by omega), if_neg (by omega), if_neg (by omega), if_neg (by omega), if_neg (by omega), if_neg (by omega), if_neg (by omega)] at hk
      exact nomatch hk
  rw [he k this]
  exact h k n hk
def gN (m : Nat → Int32) : Nat := (m 3).toNatClampNeg
theorem Inv.G {m : Nat → Int32} (h : Inv m) : m 3 = nI (gN m) ∧ gN m ≤ 8 := (h 3 8 rfl).cl (by omega)
theorem rng_h : ∀ r, r < 8 → rng (16 + r) = some 255 := by decide
theorem rng_g0 : ∀ g, g < 8 → rng (24 + 5 * g + 0) = some 7 := by decide
theorem rng_g1 : ∀ g, g < 8 → rng (24 + 5 * g + 1) = some 10 := by decide
theorem rng_g2 : ∀ g, g < 8 → rng (24 + 5 * g + 2) = some 99 := by decide
theorem rng_g3 : ∀ g, g < 8 → rng (24 + 5 * g + 3) = some 1 := by decide
theorem rng_g4 : ∀ g, g < 8 → rng (24 + 5 * g + 4) = some 1 := by decide
theorem Inv.holes {m : Nat → Int32} (h : Inv m) {r : Nat} (hr : r < 8) : isN (m (16 + r)) 255 := h _ _ (rng_h r hr)
theorem Inv.room {m : Nat → Int32} (h : Inv m) {g : Nat} (hg : g < 8) : isN (m (24 + 5 * g + 0)) 7 := h _ _ (rng_g0 g hg)
theorem Inv.wish {m : Nat → Int32} (h : Inv m) {g : Nat} (hg : g < 8) : isN (m (24 + 5 * g + 1)) 10 := h _ _ (rng_g1 g hg)
theorem Inv.doubt {m : Nat → Int32} (h : Inv m) {g : Nat} (hg : g < 8) : isN (m (24 + 5 * g + 2)) 99 := h _ _ (rng_g2 g hg)
theorem Inv.key {m : Nat → Int32} (h : Inv m) {g : Nat} (hg : g < 8) : isN (m (24 + 5 * g + 3)) 1 := h _ _ (rng_g3 g hg)
theorem Inv.here {m : Nat → Int32} (h : Inv m) {g : Nat} (hg : g < 8) : isN (m (24 + 5 * g + 4)) 1 := h _ _ (rng_g4 g hg)
theorem ite_tf {c : Prop} [Decidable c] : (if c then some true else some false) = some (decide c) := by by_cases h : c <;> simp [h]
theorem ite_ft {c : Prop} [Decidable c] : (if c then some false else some true) = some (!decide c) := by by_cases h : c <;> simp [h]
/-! what they compute -/
def sHere (m : Nat → Int32) (g : Nat) : Bool := decide (m (24 + 5 * g + 4) = nI 1)
def sKey (m : Nat → Int32) (g : Nat) : Bool := decide (m (24 + 5 * g + 3) = nI 1)
def sRm (m : Nat → Int32) (g : Nat) : Nat := (m (24 + 5 * g + 0)).toNatClampNeg
theorem Inv.rm {m : Nat → Int32} (h : Inv m) {g : Nat} (hg : g < 8) : m (24 + 5 * g + 0) = nI (sRm m g) ∧ sRm m g ≤ 7 := (h.room hg).cl (by omega)
def sRisk (m : Nat → Int32) (g : Nat) : Int32 := if m (24 + 5 * g + 2) < nI 50 then m (24 + 5 * g + 1) / nI 2 else m (24 + 5 * g + 1)
theorem sRisk_N {m : Nat → Int32} (h : Inv m) {g : Nat} (hg : g < 8) : isN (sRisk m g) 10 := by
  obtain ⟨j, h1, h2⟩ := h.wish hg
  unfold sRisk
  rw [h2]
  split
  · exact ⟨j / 2, by omega, divN (by omega) (by omega) (by omega)⟩
  · exact ⟨j, h1, rfl⟩
def sSat (m : Nat → Int32) (c : Nat) (d : Int32) : Bool := decide (mrm (d + m (12 + c)) (nI 7) = nI 6)
def sFrom (m : Nat → Int32) (r : Nat) (key : Bool) (q : Nat) : Bool := decide (r = q) || (bt (m (16 + r)) q || (key && (decide ((r + 1) % 8 = q) || decide ((q + 1) % 8 = r))))
def sSees (m : Nat → Int32) (g q : Nat) : Bool := sFrom m (sRm m g) (sKey m g) q
def sWatch (m : Nat → Int32) (q : Nat) : Int32 := bs (fun g => sHere m g && sSees m g q) (gN m)
def sIn (m : Nat → Int32) (q : Nat) : Int32 := bs (fun g => sHere m g && decide (sRm m g = q)) (gN m)
def sOnes (m : Nat → Int32) : Int32 := bs (fun g => sHere m g) (gN m)
def sInto (m : Nat → Int32) (q : Nat) : Int32 := bs (fun r => bt (m (16 + r)) q) 8
def bc (x : Int32) : Int32 := fo (fun g a => a + ((x >>> (nI g &&& nI 31)) &&& nI 1)) 31 (nI 0)
def sHoles (m : Nat → Int32) : Int32 := fo (fun r a => a + bc (m (16 + r))) 8 (nI 0)
def sDoubts (m : Nat → Int32) : Int32 := fo (fun g a => a + (if sHere m g = true then m (24 + 5 * g + 2) else nI 0)) (gN m) (nI 0)
def sRisks (m : Nat → Int32) (set : Int32) : Int32 := fo (fun g a => a + (if bt set g = true then sRisk m g else nI 0)) (gN m) (nI 0)
def sOddsF (m : Nat → Int32) (set : Int32) (g : Nat) (a : Int64 × Int64) : Int64 × Int64 := if bt set g = true then (a.1 * 10, a.2 * (nI 10 - sRisk m g).toInt64) else a
def sOdds2 (m : Nat → Int32) (set : Int32) : Int64 × Int64 := fo (sOddsF m set) (gN m) (1, 1)
def sOdds (m : Nat → Int32) (set : Int32) : Int32 := (((sOdds2 m set).1 - (sOdds2 m set).2) * 10000 / (sOdds2 m set).1).toInt32
theorem sWatch_N {m : Nat → Int32} (h : Inv m) (q : Nat) : isN (sWatch m q) 255 := isN_bs (k := 8) h.G.2 (by omega)
theorem sIn_N {m : Nat → Int32} (h : Inv m) (q : Nat) : isN (sIn m q) 255 := isN_bs (k := 8) h.G.2 (by omega)
theorem sOnes_N {m : Nat → Int32} (h : Inv m) : isN (sOnes m) 255 := isN_bs (k := 8) h.G.2 (by omega)
theorem sInto_N (m : Nat → Int32) (q : Nat) : isN (sInto m q) 255 := isN_bs (k := 8) (by omega) (by omega)
theorem bc_N {x : Int32} (h : isN x 255) : isN (bc x) 8 := by
  obtain ⟨j, hj, rfl⟩ := h
  have h1 := (by decide +kernel : ∀ j, j < 256 → bc (nI j) = nI (bc (nI j)).toNatClampNeg ∧ (bc (nI j)).toNatClampNeg ≤ 8) j (by omega)
  exact ⟨_, h1.2, h1.1⟩
theorem c_bits {x : Int32} (h : isN x 255) : fJ16_bitCount x = some (bc x) := by
  obtain ⟨j, hj, rfl⟩ := h
  exact (by decide +kernel : ∀ j, j < 256 → fJ16_bitCount (nI j) = some (bc (nI j))) j (by omega)
/-! the reference -/
theorem ix_of (g k : Nat) : (nI 24 + (nI 5 * nI g)) + nI k = nI (24 + 5 * g + k) := by rw [pk_mul, nI_add, nI_add]
theorem x_of (t : Tw) {g k : Nat} (hg : g < 8) (hk : k < 5) : fX6_of t (nI g) (nI k) = some (tw_m t (24 + 5 * g + k)) := by
  unfold fX6_of
  simp only [li0, li1, li2, li3, li4, li5, li6, li7, li8, li9, li10, li11, li12, li13, li14, li15, li16, li20, li24, li26, li30, li31, li32, li40, li41, li43, li48, li50, li52, li57, li59, li60, li62, li64, li65, li66, li67, li97, li99, li100, li122, li236, li239, li240, li255, li254, li256, li304, li400, li703, li704, li999, li1000000, li2000000000, li3344, li3648, li9999, li10000, li32767, lm1]
  rw [ix_of, mckN _ (by omega) (by omega), clN (by omega)]
theorem x_put (t : Tw) {g k : Nat} (hg : g < 8) (hk : k < 5) (v : Int32) : fX6_put t (nI g) (nI k) v = some (tw_s_m t (upd (tw_m t) (24 + 5 * g + k) v)) := by
  unfold fX6_put
  simp only [li0, li1, li2, li3, li4, li5, li6, li7, li8, li9, li10, li11, li12, li13, li14, li15, li16, li20, li24, li26, li30, li31, li32, li40, li41, li43, li48, li50, li52, li57, li59, li60, li62, li64, li65, li66, li67, li97, li99, li100, li122, li236, li239, li240, li255, li254, li256, li304, li400, li703, li704, li999, li1000000, li2000000000, li3344, li3648, li9999, li10000, li32767, lm1]
  rw [ix_of, mckN _ (by omega) (by omega), clN (by omega), mlt_e]
theorem x_isHere (t : Tw) {g : Nat} (hg : g < 8) : fX6_isHere t (nI g) = some (sHere (tw_m t) g) := by
  unfold fX6_isHere
  simp only [li0, li1, li2, li3, li4, li5, li6, li7, li8, li9, li10, li11, li12, li13, li14, li15, li16, li20, li24, li26, li30, li31, li32, li40, li41, li43, li48, li50, li52, li57, li59, li60, li62, li64, li65, li66, li67, li97, li99, li100, li122, li236, li239, li240, li255, li254, li256, li304, li400, li703, li704, li999, li1000000, li2000000000, li3344, li3648, li9999, li10000, li32767, lm1]
  rw [x_of t hg (by omega), mob_sm, ite_tf]
  rfl
theorem x_risk (t : Tw) {g : Nat} (hg : g < 8) : fX6_risk t (nI g) = some (sRisk (tw_m t) g) := by
  unfold fX6_risk sRisk
  simp only [li0, li1, li2, li3, li4, li5, li6, li7, li8, li9, li10, li11, li12, li13, li14, li15, li16, li20, li24, li26, li30, li31, li32, li40, li41, li43, li48, li50, li52, li57, li59, li60, li62, li64, li65, li66, li67, li97, li99, li100, li122, li236, li239, li240, li255, li254, li256, li304, li400, li703, li704, li999, li1000000, li2000000000, li3344, li3648, li9999, li10000, li32767, lm1]
  rw [x_of t hg (by omega), x_of t hg (by omega), mob_sm, mob_sm, mob_sm]
  split <;> rfl
theorem x_isIn (v lo hi : Int32) : fX6_isIn v lo hi = some (!decide (v < lo) && !decide (hi < v)) := by
  unfold fX6_isIn
  by_cases h : v < lo
  · simp [h]
  · by_cases h2 : hi < v <;> simp [h, h2]
theorem x_isOf (x : Int32) {k : Nat} (hk : k < 31) : fX6_isOf x (nI k) = some (bt x k) := by
  unfold fX6_isOf
  simp only [li0, li1, li2, li3, li4, li5, li6, li7, li8, li9, li10, li11, li12, li13, li14, li15, li16, li20, li24, li26, li30, li31, li32, li40, li41, li43, li48, li50, li52, li57, li59, li60, li62, li64, li65, li66, li67, li97, li99, li100, li122, li236, li239, li240, li255, li254, li256, li304, li400, li703, li704, li999, li1000000, li2000000000, li3344, li3648, li9999, li10000, li32767, lm1]
  rw [ite_tf]
  congr 1
  rw [Bool.eq_iff_iff, decide_eq_true_iff]
  exact has_e x hk
theorem c_has (x : Int32) {k : Nat} (hk : k < 31) : fX1_has x (nI k) = some (bt x k) := x_isOf x hk
theorem c_in (v lo hi : Int32) : fX1_in v lo hi = some (!decide (v < lo) && !decide (hi < v)) := x_isIn v lo hi
theorem x_bits (x : Int32) : fX6_bits x = some (bc x) := by
  unfold fX6_bits bc
  refine loop_p (fun n a i => fX6_bits_L4 x n a i) (fun g a => a + ((x >>> (nI g &&& nI 31)) &&& nI 1)) some 31 ?_ ?_ (by decide) (nI 0)
  · intro n a
    simp only [fX6_bits_L4, li0, li1, li2, li3, li4, li5, li6, li7, li8, li9, li10, li11, li12, li13, li14, li15, li16, li20, li24, li26, li30, li31, li32, li40, li41, li43, li48, li50, li52, li57, li59, li60, li62, li64, li65, li66, li67, li97, li99, li100, li122, li236, li239, li240, li255, li254, li256, li304, li400, li703, li704, li999, li1000000, li2000000000, li3344, li3648, li9999, li10000, li32767, lm1]
    rw [if_pos (Int32.le_refl _)]
  · intro n a g hg
    simp only [fX6_bits_L4, li0, li1, li2, li3, li4, li5, li6, li7, li8, li9, li10, li11, li12, li13, li14, li15, li16, li20, li24, li26, li30, li31, li32, li40, li41, li43, li48, li50, li52, li57, li59, li60, li62, li64, li65, li66, li67, li97, li99, li100, li122, li236, li239, li240, li255, li254, li256, li304, li400, li703, li704, li999, li1000000, li2000000000, li3344, li3648, li9999, li10000, li32767, lm1]
    rw [if_neg (nI_ge hg (by omega)), nI_add]
theorem x_isSat (t : Tw) {c : Nat} (hc : c < 2) (d : Int32) : fX6_isSaturday t (nI c) d = some (sSat (tw_m t) c d) := by
  unfold fX6_isSaturday sSat
  simp only [li0, li1, li2, li3, li4, li5, li6, li7, li8, li9, li10, li11, li12, li13, li14, li15, li16, li20, li24, li26, li30, li31, li32, li40, li41, li43, li48, li50, li52, li57, li59, li60, li62, li64, li65, li66, li67, li97, li99, li100, li122, li236, li239, li240, li255, li254, li256, li304, li400, li703, li704, li999, li1000000, li2000000000, li3344, li3648, li9999, li10000, li32767, lm1]
  rw [nI_add, mckN _ (by omega) (by omega), clN (by omega), ite_tf]
theorem x_isHole (t : Tw) {r q : Nat} (hr : r < 8) (hq : q < 31) : fX6_isHole t (nI r) (nI q) = some (bt (tw_m t (16 + r)) q) := by
  unfold fX6_isHole
  simp only [li0, li1, li2, li3, li4, li5, li6, li7, li8, li9, li10, li11, li12, li13, li14, li15, li16, li20, li24, li26, li30, li31, li32, li40, li41, li43, li48, li50, li52, li57, li59, li60, li62, li64, li65, li66, li67, li97, li99, li100, li122, li236, li239, li240, li255, li254, li256, li304, li400, li703, li704, li999, li1000000, li2000000000, li3344, li3648, li9999, li10000, li32767, lm1]
  rw [nI_add, mckN _ (by omega) (by omega), clN (by omega), x_isOf _ hq, mob_sm]
theorem x_seesFrom (t : Tw) {r q : Nat} (hr : r < 8) (hq : q < 8) (key : Bool) : fX6_seesFrom t (nI r) key (nI q) = some (sFrom (tw_m t) r key q) := by
  unfold fX6_seesFrom sFrom
  simp only [li0, li1, li2, li3, li4, li5, li6, li7, li8, li9, li10, li11, li12, li13, li14, li15, li16, li20, li24, li26, li30, li31, li32, li40, li41, li43, li48, li50, li52, li57, li59, li60, li62, li64, li65, li66, li67, li97, li99, li100, li122, li236, li239, li240, li255, li254, li256, li304, li400, li703, li704, li999, li1000000, li2000000000, li3344, li3648, li9999, li10000, li32767, lm1, mjn_e]
  rw [x_isHole t hr (by omega), mob_sm, nI_add, nI_add, mrm_N (by omega) (by omega) (by omega), mrm_N (by omega) (by omega) (by omega)]
  have e1 : (nI ((r + 1) % 8) = nI q) ↔ ((r + 1) % 8 = q) := nI_eq (by omega) (by omega)
  have e2 : (nI ((q + 1) % 8) = nI r) ↔ ((q + 1) % 8 = r) := nI_eq (by omega) (by omega)
  have e3 : (nI r = nI q) ↔ (r = q) := nI_eq (by omega) (by omega)
  simp only [e1, e2, e3]
  by_cases h1 : r = q
  · simp [h1, mob_sm]
  · by_cases h2 : (r + 1) % 8 = q
    · cases key <;> cases bt (tw_m t (16 + r)) q <;> simp [h1, h2, mob_sm]
    · by_cases h3 : (q + 1) % 8 = r
      · cases key <;> cases bt (tw_m t (16 + r)) q <;> simp [h1, h2, h3, mob_sm]
      · cases key <;> cases bt (tw_m t (16 + r)) q <;> simp [h1, h2, h3, mob_sm]
theorem x_sees (t : Tw) (hI : Inv (tw_m t)) {g q : Nat} (hg : g < 8) (hq : q < 8) : fX6_sees t (nI g) (nI q) = some (sSees (tw_m t) g q) := by
  unfold fX6_sees sSees sKey
  simp only [li0, li1, li2, li3, li4, li5, li6, li7, li8, li9, li10, li11, li12, li13, li14, li15, li16, li20, li24, li26, li30, li31, li32, li40, li41, li43, li48, li50, li52, li57, li59, li60, li62, li64, li65, li66, li67, li97, li99, li100, li122, li236, li239, li240, li255, li254, li256, li304, li400, li703, li704, li999, li1000000, li2000000000, li3344, li3648, li9999, li10000, li32767, lm1, mjn_e]
  rw [x_of t hg (by omega), x_of t hg (by omega), mob_sm, mob_sm, (hI.rm hg).1]
  by_cases h : tw_m t (24 + 5 * g + 3) = nI 1
  · rw [if_pos h, x_seesFrom t (by have := (hI.rm hg).2; omega) hq, mob_sm, decide_eq_true h]
  · rw [if_neg h, x_seesFrom t (by have := (hI.rm hg).2; omega) hq, mob_sm, decide_eq_false h]
theorem x_watchers (t : Tw) (hI : Inv (tw_m t)) {q : Nat} (hq : q < 8) : fX6_watchers t (nI q) = some (sWatch (tw_m t) q) := by
  obtain ⟨hG, hG8⟩ := hI.G
  unfold fX6_watchers sWatch bs
  refine loop_p (fun n a i => fX6_watchers_L4 t (nI q) n a i) (fun g a => a ||| ob (sHere (tw_m t) g && sSees (tw_m t) g q) g) some (gN (tw_m t)) ?_ ?_ (by unfold mFU; omega) (nI 0)
  · intro n a
    simp only [fX6_watchers_L4]
    rw [hG, if_pos (Int32.le_refl _)]
  · intro n a g hg
    simp only [fX6_watchers_L4, li0, li1, li2, li3, li4, li5, li6, li7, li8, li9, li10, li11, li12, li13, li14, li15, li16, li20, li24, li26, li30, li31, li32, li40, li41, li43, li48, li50, li52, li57, li59, li60, li62, li64, li65, li66, li67, li97, li99, li100, li122, li236, li239, li240, li255, li254, li256, li304, li400, li703, li704, li999, li1000000, li2000000000, li3344, li3648, li9999, li10000, li32767, lm1]
    rw [hG, if_neg (nI_ge hg (by omega)), x_isHere t (by omega), mob_sm, x_sees t hI (by omega) hq, mob_sm, nI_add]
    unfold ob one
    cases sHere (tw_m t) g <;> cases sSees (tw_m t) g q <;> rfl
theorem x_guestsIn (t : Tw) (hI : Inv (tw_m t)) {q : Nat} (hq : q < 8) : fX6_guestsIn t (nI q) = some (sIn (tw_m t) q) := by
  obtain ⟨hG, hG8⟩ := hI.G
  unfold fX6_guestsIn sIn bs
  refine loop_p (fun n a i => fX6_guestsIn_L4 t (nI q) n a i) (fun g a => a ||| ob (sHere (tw_m t) g && decide (sRm (tw_m t) g = q)) g) some (gN (tw_m t)) ?_ ?_ (by unfold mFU; omega) (nI 0)
  · intro n a
    simp only [fX6_guestsIn_L4]
    rw [hG, if_pos (Int32.le_refl _)]
  · intro n a g hg
    simp only [fX6_guestsIn_L4, li0, li1, li2, li3, li4, li5, li6, li7, li8, li9, li10, li11, li12, li13, li14, li15, li16, li20, li24, li26, li30, li31, li32, li40, li41, li43, li48, li50, li52, li57, li59, li60, li62, li64, li65, li66, li67, li97, li99, li100, li122, li236, li239, li240, li255, li254, li256, li304, li400, li703, li704, li999, li1000000, li2000000000, li3344, li3648, li9999, li10000, li32767, lm1]
    have hr := hI.rm (show g < 8 by omega)
    have e3 : (nI (sRm (tw_m t) g) = nI q) ↔ (sRm (tw_m t) g = q) := nI_eq (by omega) (by omega)
    rw [hG, if_neg (nI_ge hg (by omega)), x_isHere t (by omega), mob_sm, x_of t (by omega) (by omega), mob_sm, nI_add, hr.1]
    simp only [e3]
    unfold ob one
    cases sHere (tw_m t) g
    · rfl
    · by_cases h : sRm (tw_m t) g = q <;> simp [h]
theorem x_hereOnes (t : Tw) (hI : Inv (tw_m t)) : fX6_hereOnes t = some (sOnes (tw_m t)) := by
  obtain ⟨hG, hG8⟩ := hI.G
  unfold fX6_hereOnes sOnes bs
  refine loop_p (fun n a i => fX6_hereOnes_L4 t n a i) (fun g a => a ||| ob (sHere (tw_m t) g) g) some (gN (tw_m t)) ?_ ?_ (by unfold mFU; omega) (nI 0)
  · intro n a
    simp only [fX6_hereOnes_L4]
    rw [hG, if_pos (Int32.le_refl _)]
  · intro n a g hg
    simp only [fX6_hereOnes_L4, li0, li1, li2, li3, li4, li5, li6, li7, li8, li9, li10, li11, li12, li13, li14, li15, li16, li20, li24, li26, li30, li31, li32, li40, li41, li43, li48, li50, li52, li57, li59, li60, li62, li64, li65, li66, li67, li97, li99, li100, li122, li236, li239, li240, li255, li254, li256, li304, li400, li703, li704, li999, li1000000, li2000000000, li3344, li3648, li9999, li10000, li32767, lm1]
    rw [hG, if_neg (nI_ge hg (by omega)), x_isHere t (by omega), mob_sm, nI_add]
    unfold ob one
    cases sHere (tw_m t) g <;> rfl
theorem x_from (t : Tw) {q : Nat} (hq : q < 8) : fX6_from t (nI q) = some (sInto (tw_m t) q) := by
  unfold fX6_from sInto bs
  refine loop_p (fun n a i => fX6_from_L4 t (nI q) n a i) (fun r a => a ||| ob (bt (tw_m t (16 + r)) q) r) some 8 ?_ ?_ (by decide) (nI 0)
  · intro n a
    simp only [fX6_from_L4, li0, li1, li2, li3, li4, li5, li6, li7, li8, li9, li10, li11, li12, li13, li14, li15, li16, li20, li24, li26, li30, li31, li32, li40, li41, li43, li48, li50, li52, li57, li59, li60, li62, li64, li65, li66, li67, li97, li99, li100, li122, li236, li239, li240, li255, li254, li256, li304, li400, li703, li704, li999, li1000000, li2000000000, li3344, li3648, li9999, li10000, li32767, lm1]
    rw [if_pos (Int32.le_refl _)]
  · intro n a g hg
    simp only [fX6_from_L4, li0, li1, li2, li3, li4, li5, li6, li7, li8, li9, li10, li11, li12, li13, li14, li15, li16, li20, li24, li26, li30, li31, li32, li40, li41, li43, li48, li50, li52, li57, li59, li60, li62, li64, li65, li66, li67, li97, li99, li100, li122, li236, li239, li240, li255, li254, li256, li304, li400, li703, li704, li999, li1000000, li2000000000, li3344, li3648, li9999, li10000, li32767, lm1]
    rw [if_neg (nI_ge hg (by omega)), x_isHole t (by omega) (by omega), mob_sm, nI_add]
    unfold ob one
    cases bt (tw_m t (16 + g)) q <;> rfl
theorem x_holes (t : Tw) : fX6_holes t = some (sHoles (tw_m t)) := by
  unfold fX6_holes sHoles
  refine loop_p (fun n a i => fX6_holes_L4 t n a i) (fun r a => a + bc (tw_m t (16 + r))) some 8 ?_ ?_ (by decide) (nI 0)
  · intro n a
    simp only [fX6_holes_L4, li0, li1, li2, li3, li4, li5, li6, li7, li8, li9, li10, li11, li12, li13, li14, li15, li16, li20, li24, li26, li30, li31, li32, li40, li41, li43, li48, li50, li52, li57, li59, li60, li62, li64, li65, li66, li67, li97, li99, li100, li122, li236, li239, li240, li255, li254, li256, li304, li400, li703, li704, li999, li1000000, li2000000000, li3344, li3648, li9999, li10000, li32767, lm1]
    rw [if_pos (Int32.le_refl _)]
  · intro n a g hg
    simp only [fX6_holes_L4, li0, li1, li2, li3, li4, li5, li6, li7, li8, li9, li10, li11, li12, li13, li14, li15, li16, li20, li24, li26, li30, li31, li32, li40, li41, li43, li48, li50, li52, li57, li59, li60, li62, li64, li65, li66, li67, li97, li99, li100, li122, li236, li239, li240, li255, li254, li256, li304, li400, li703, li704, li999, li1000000, li2000000000, li3344, li3648, li9999, li10000, li32767, lm1]
    rw [if_neg (nI_ge hg (by omega)), nI_add, nI_add, mckN _ (by omega) (by omega), clN (by omega), x_bits, mob_sm]
theorem x_doubts (t : Tw) (hI : Inv (tw_m t)) : fX6_doubts t = some (sDoubts (tw_m t)) := by
  obtain ⟨hG, hG8⟩ := hI.G
  unfold fX6_doubts sDoubts
  refine loop_p (fun n a i => fX6_doubts_L4 t n a i) (fun g a => a + (if sHere (tw_m t) g = true then tw_m t (24 + 5 * g + 2) else nI 0)) some (gN (tw_m t)) ?_ ?_ (by unfold mFU; omega) (nI 0)
  · intro n a
    simp only [fX6_doubts_L4]
    rw [hG, if_pos (Int32.le_refl _)]
  · intro n a g hg
    simp only [fX6_doubts_L4, li0, li1, li2, li3, li4, li5, li6, li7, li8, li9, li10, li11, li12, li13, li14, li15, li16, li20, li24, li26, li30, li31, li32, li40, li41, li43, li48, li50, li52, li57, li59, li60, li62, li64, li65, li66, li67, li97, li99, li100, li122, li236, li239, li240, li255, li254, li256, li304, li400, li703, li704, li999, li1000000, li2000000000, li3344, li3648, li9999, li10000, li32767, lm1]
    rw [hG, if_neg (nI_ge hg (by omega)), x_isHere t (by omega), mob_sm, x_of t (by omega) (by omega), mob_sm, nI_add]
    cases sHere (tw_m t) g <;> rfl
theorem x_risksOf (t : Tw) (hI : Inv (tw_m t)) (set : Int32) : fX6_risksOf t set = some (sRisks (tw_m t) set) := by
  obtain ⟨hG, hG8⟩ := hI.G
  unfold fX6_risksOf sRisks
  refine loop_p (fun n a i => fX6_risksOf_L4 t set n a i) (fun g a => a + (if bt set g = true then sRisk (tw_m t) g else nI 0)) some (gN (tw_m t)) ?_ ?_ (by unfold mFU; omega) (nI 0)
  · intro n a
    simp only [fX6_risksOf_L4]
    rw [hG, if_pos (Int32.le_refl _)]
  · intro n a g hg
    simp only [fX6_risksOf_L4, li0, li1, li2, li3, li4, li5, li6, li7, li8, li9, li10, li11, li12, li13, li14, li15, li16, li20, li24, li26, li30, li31, li32, li40, li41, li43, li48, li50, li52, li57, li59, li60, li62, li64, li65, li66, li67, li97, li99, li100, li122, li236, li239, li240, li255, li254, li256, li304, li400, li703, li704, li999, li1000000, li2000000000, li3344, li3648, li9999, li10000, li32767, lm1]
    rw [hG, if_neg (nI_ge hg (by omega)), x_isOf _ (by omega), mob_sm, x_risk t (by omega), mob_sm, nI_add]
    cases bt set g <;> rfl
def pw10 : Nat → Int64
  | 0 => 1
  | n + 1 => pw10 n * 10
theorem sOdds_ne (m : Nat → Int32) (set : Int32) {n : Nat} (hn : n ≤ 8) : ¬ (fo (sOddsF m set) n (1, 1)).1 = 0 := by
  have h : ∀ n, n ≤ 8 → ∃ k, k ≤ n ∧ (fo (sOddsF m set) n (1, 1)).1 = pw10 k := by
    intro n
    induction n with
    | zero => exact fun _ => ⟨0, Nat.le_refl _, rfl⟩
    | succ n ih =>
      intro h
      obtain ⟨k, h1, h2⟩ := ih (by omega)
      show ∃ k', k' ≤ n + 1 ∧ (sOddsF m set n (fo (sOddsF m set) n (1, 1))).1 = pw10 k'
      unfold sOddsF
      split
      · exact ⟨k + 1, by omega, by show _ * 10 = pw10 k * 10; rw [← h2]; rfl⟩
      · exact ⟨k, by omega, h2⟩
  obtain ⟨k, h1, h2⟩ := h n hn
  rw [h2]
  exact (by decide +kernel : ∀ k, k ≤ 8 → ¬ pw10 k = 0) k (by omega)
theorem x_oddsOf (t : Tw) (hI : Inv (tw_m t)) (set : Int32) : fX6_oddsOf t set = some (sOdds (tw_m t) set) := by
  obtain ⟨hG, hG8⟩ := hI.G
  unfold fX6_oddsOf
  rw [mjn_e]
  have h := loop_p (fun n (a : Int64 × Int64) i => fX6_oddsOf_L8 t (fun x2 x4 => mnl x2 <| some (((x2 - x4) * 10000 / x2).toInt32)) set n a.1 a.2 i) (sOddsF (tw_m t) set) (fun a => mnl a.1 <| some (((a.1 - a.2) * 10000 / a.1).toInt32)) (gN (tw_m t)) ?_ ?_ (n := mFU) (by unfold mFU; omega) (1, 1)
  · refine h.trans ?_
    rw [mnl_e _ (sOdds_ne _ _ hG8)]
    rfl
  · intro n a
    simp only [fX6_oddsOf_L8]
    rw [hG, if_pos (Int32.le_refl _)]
  · intro n a g hg
    simp only [fX6_oddsOf_L8, li0, li1, li2, li3, li4, li5, li6, li7, li8, li9, li10, li11, li12, li13, li14, li15, li16, li20, li24, li26, li30, li31, li32, li40, li41, li43, li48, li50, li52, li57, li59, li60, li62, li64, li65, li66, li67, li97, li99, li100, li122, li236, li239, li240, li255, li254, li256, li304, li400, li703, li704, li999, li1000000, li2000000000, li3344, li3648, li9999, li10000, li32767, lm1]
    rw [hG, if_neg (nI_ge hg (by omega)), x_isOf _ (by omega), mob_sm, x_risk t (by omega), mob_sm, nI_add]
    unfold sOddsF
    cases bt set g <;> rfl
