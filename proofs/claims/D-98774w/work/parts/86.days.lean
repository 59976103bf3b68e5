/-! PURE LAWS: a day -/
theorem rng_304 {p n : Nat} (h : rng p = some n) : p < 64 := by
  unfold rng at h
  by_cases q : p < 64
  · exact q
  · exfalso
    rw [if_neg (by omega), if_neg (by omega), if_neg (by omega), if_neg (by omega), if_neg (by omega), if_neg (by omega), if_neg (by omega), if_neg (by omega), if_neg (by omega), if_neg (by omega), if_neg (by omega), if_neg (by omega), if_neg (by omega), if_neg (by omega)] at h
    exact nomatch h
/-- the same but for the row and what a reading uses; the row's first four and its text are the same -/
def DF (t t' : Tw) : Prop := (tw_kept t' = tw_kept t ∧ tw_hasImage t' = tw_hasImage t ∧ tw_aside t' = tw_aside t ∧ tw_acts t' = tw_acts t ∧ tw_acted t' = tw_acted t ∧ tw_tape t' = tw_tape t ∧ tw_taped t' = tw_taped t ∧ tw_thrown t' = tw_thrown t ∧ tw_fault t' = tw_fault t) ∧ ∀ k, (k < 4 ∨ 304 ≤ k) → tw_m t' k = tw_m t k
theorem DF.refl (t : Tw) : DF t t := ⟨⟨rfl, rfl, rfl, rfl, rfl, rfl, rfl, rfl, rfl⟩, fun _ _ => rfl⟩
theorem DF.trans {t t' t'' : Tw} (h : DF t t') (q : DF t' t'') : DF t t'' := by
  obtain ⟨⟨a1, a2, a3, a4, a5, a6, a7, a8, a9⟩, a⟩ := h
  obtain ⟨⟨b1, b2, b3, b4, b5, b6, b7, b8, b9⟩, b⟩ := q
  exact ⟨⟨b1.trans a1, b2.trans a2, b3.trans a3, b4.trans a4, b5.trans a5, b6.trans a6, b7.trans a7, b8.trans a8, b9.trans a9⟩, fun k hk => (b k hk).trans (a k hk)⟩
theorem DF.row (t : Tw) {m' : Nat → Int32} (h : ∀ k, (k < 4 ∨ 304 ≤ k) → m' k = tw_m t k) : DF t (tw_s_m t m') := ⟨⟨rfl, rfl, rfl, rfl, rfl, rfl, rfl, rfl, rfl⟩, h⟩
theorem DF.set (t : Tw) {p : Nat} (h4 : 4 ≤ p) (h304 : p < 304) (x : Int32) : DF t (tw_s_m t (upd (tw_m t) p x)) := DF.row t fun k hk => upd_n (by omega)
theorem DF.of {t t' : Tw} (f : FrT t t') (hf : tw_fault t' = tw_fault t) : DF t t' := by
  obtain ⟨a1, a2, a3, a4, a5, a6, a7, a8, a9⟩ := f
  exact ⟨⟨a2, a3, a4, a5, a6, a7, a8, a9, hf⟩, fun k _ => by rw [a1]⟩
theorem Inv.row {m m' : Nat → Int32} (h : Inv m) (he : ∀ k n, rng k = some n → m' k = m k ∨ isN (m' k) n) : Inv m' := fun k n hk => by
  rcases he k n hk with q | q
  · rw [q]; exact h k n hk
  · exact q
/-- a world of the component and a row on their way -/
def SD (Sm : zSem) (w0 : Wd) (t0 : Tw) (w : Wd) (t : Tw) : Prop := WM Sm w (tw_m t) ∧ DF t0 t ∧ wd_law w = wd_law w0
theorem SD.row {Sm : zSem} {w0 w w' : Wd} {t0 t : Tw} (h : SD Sm w0 t0 w t) {m' : Nat → Int32} (hw : RW w' m') (hl : wd_law w' = wd_law w) (hI : Inv m') (he : ∀ k, (k < 4 ∨ 304 ≤ k) → m' k = tw_m t k) : SD Sm w0 t0 w' (tw_s_m t m') :=
  ⟨⟨hw, hI, by rw [hl]; exact h.1.2.2.congr (he 1 (by omega)) (he 2 (by omega)) fun k a _ => he k (by omega)⟩, h.2.1.trans (DF.row t he), hl.trans h.2.2⟩
theorem SD.set {Sm : zSem} {w0 w w' : Wd} {t0 t : Tw} (h : SD Sm w0 t0 w t) {p : Nat} {x : Int32} (hw : RW w' (upd (tw_m t) p x)) (hl : wd_law w' = wd_law w) (h4 : 4 ≤ p) (h304 : p < 304) (hx : ∀ n, rng p = some n → isN x n) : SD Sm w0 t0 w' (tw_s_m t (upd (tw_m t) p x)) :=
  h.row hw hl (h.1.2.1.upd p x hx) fun k hk => upd_n (by omega)
theorem SD.fr {Sm : zSem} {w0 w : Wd} {t0 t t' : Tw} (h : SD Sm w0 t0 w t) (f : FrT t t') (hf : tw_fault t' = tw_fault t) : SD Sm w0 t0 w t' := ⟨by rw [f.1]; exact h.1, h.2.1.trans (DF.of f hf), h.2.2⟩
theorem clamp99 (v : Int32) : isN (zmx (nI 0) (zmn (nI 99) v)) 99 := by
  rw [zmx_e, zmn_e]
  by_cases q : v ≤ nI 99
  · rw [if_pos q]
    by_cases w : nI 0 ≤ v
    · rw [if_pos w]
      exact isN_of (Int32.not_lt.mpr w) (Int32.not_lt.mpr q) (by omega)
    · rw [if_neg w]; exact isN_n (by omega)
  · rw [if_neg q, if_pos (by decide +kernel)]; exact isN_n (by omega)
theorem clampT {v : Int32} {n : Nat} (h0 : ¬ v < nI 0) (hn : n < 2 ^ 31) : isN (zmn (nI n) v) n := by
  rw [zmn_e]
  by_cases q : v ≤ nI n
  · rw [if_pos q]; exact isN_of h0 (Int32.not_lt.mpr q) hn
  · rw [if_neg q]; exact isN_n (Nat.le_refl _)
section DAY
variable {Sm : zSem} {w0 w : Wd} {t0 t : Tw}
/-! all turn -/
theorem d_turn (h : SD Sm w0 t0 w t) (sh : Kp) (ssc : Sc) : ∃ (w' : Wd) (ssc' : Sc) (t' : Tw), fX1_allTurn Sm sh w ssc = some (w', ssc') ∧ (∀ K : Tw → Option (Int32 × Tw), fX6_goes_L20 K mFU (nI 0) t = K t') ∧ SD Sm w0 t0 w' t' ∧ ∀ k, k < 24 → tw_m t' k = tw_m t k := by
  obtain ⟨hG, hG8⟩ := h.1.2.1.G
  unfold fX1_allTurn
  simp only [li0, li1, li2, li3, li4, li5, li6, li7, li8, li9, li10, li11, li12, li13, li14, li15, li16, li20, li24, li26, li30, li31, li32, li40, li41, li43, li48, li50, li52, li57, li59, li60, li62, li64, li65, li66, li67, li97, li99, li100, li122, li236, li239, li240, li255, li254, li256, li304, li400, li703, li704, li999, li1000000, li2000000000, li3344, li3648, li9999, li10000, li32767, lm1]
  refine lpU (fun n i (a : Wd × Sc × Tw) => ∃ (w' : Wd) (ssc' : Sc) (t' : Tw), fX1_allTurn_L2 Sm sh n (nI i) a.1 a.2.1 = some (w', ssc') ∧ (∀ K : Tw → Option (Int32 × Tw), fX6_goes_L20 K n (nI i) a.2.2 = K t') ∧ SD Sm w0 t0 w' t' ∧ ∀ k, k < 24 → tw_m t' k = tw_m t k) (fun i a => SD Sm w0 t0 a.1 a.2.2 ∧ ∀ k, k < 24 → tw_m a.2.2 k = tw_m t k) (gN (tw_m t)) ?_ ?_ (n := mFU) (by unfold mFU; omega) (w, ssc, t) ⟨h, fun _ _ => rfl⟩
  · rintro n ⟨w1, s1, t1⟩ ⟨hs, hk⟩
    have hs : SD Sm w0 t0 w1 t1 := hs
    have hk : ∀ k, k < 24 → tw_m t1 k = tw_m t k := hk
    have e3 : tw_m t1 3 = nI (gN (tw_m t)) := (hk 3 (by omega)).trans hG
    refine ⟨w1, s1, t1, ?_, ?_, hs, hk⟩
    · simp only [fX1_allTurn_L2]
      rw [hs.1.1.guests, e3, if_pos (Int32.le_refl _)]
    · intro K
      simp only [fX6_goes_L20]
      rw [e3, if_pos (Int32.le_refl _)]
  · rintro n i ⟨w1, s1, t1⟩ hi ⟨hs, hk⟩ ih
    have hs : SD Sm w0 t0 w1 t1 := hs
    have hk : ∀ k, k < 24 → tw_m t1 k = tw_m t k := hk
    have e3 : tw_m t1 3 = nI (gN (tw_m t)) := (hk 3 (by omega)).trans hG
    have hi8 : i < 8 := by omega
    have hm8 : ∀ {α : Type} (K : Option α), mck (nI i) 8 K = K := fun K => mckN K hi8 (by omega)
    have hc8 : Int32.toNatClampNeg (nI i) = i := clN (by omega)
    show ∃ (w' : Wd) (ssc' : Sc) (t' : Tw), fX1_allTurn_L2 Sm sh (n + 1) (nI i) w1 s1 = some (w', ssc') ∧ (∀ K : Tw → Option (Int32 × Tw), fX6_goes_L20 K (n + 1) (nI i) t1 = K t') ∧ SD Sm w0 t0 w' t' ∧ ∀ k, k < 24 → tw_m t' k = tw_m t k
    simp only [fX1_allTurn_L2, fX6_goes_L20, li0, li1, li2, li3, li4, li5, li6, li7, li8, li9, li10, li11, li12, li13, li14, li15, li16, li20, li24, li26, li30, li31, li32, li40, li41, li43, li48, li50, li52, li57, li59, li60, li62, li64, li65, li66, li67, li97, li99, li100, li122, li236, li239, li240, li255, li254, li256, li304, li400, li703, li704, li999, li1000000, li2000000000, li3344, li3648, li9999, li10000, li32767, lm1, hm8, hc8]
    rw [hs.1.1.guests, e3, if_neg (nI_ge hi (by omega))]
    simp only [if_neg (nI_ge hi (show gN (tw_m t) < 2 ^ 31 by omega))]
    rw [hs.1.1.here hi8]
    cases hh : sHere (tw_m t1) i
    · obtain ⟨w', s', t', f1, f2, f3, f4⟩ := ih (w1, s1, t1) ⟨hs, hk⟩
      refine ⟨w', s', t', ?_, ?_, f3, f4⟩
      · rw [if_neg (by decide), nI_add]; exact f1
      · intro K
        rw [x_isHere _ hi8, mob_sm, hh, if_neg (by decide), nI_add]; exact f2 K
    · obtain ⟨s2, g1⟩ := c_turnsBy hs.1 sh s1 hi8
      obtain ⟨t2, g2, g3, g4⟩ := x_turnsBy (Sm := Sm) (o := wd_law w1) hs.1.2.1 hs.1.2.2 hi8
      have hs2 := hs.fr g3 g4
      have em : tw_m t2 = tw_m t1 := g3.1
      obtain ⟨v, hv⟩ : ∃ v, v = zmx (nI 0) (zmn (nI 99) (tw_m t1 (24 + 5 * i + 2) + trV Sm (wd_law w1) (tw_m t1) i)) := ⟨_, rfl⟩
      have hv9 : isN v 99 := by rw [hv]; exact clamp99 _
      have hs3 : SD Sm w0 t0 (wd_s_doubt w1 (upd (wd_doubt w1) i v)) (tw_s_m t2 (upd (tw_m t2) (24 + 5 * i + 2) v)) := hs2.set (hs2.1.1.up_doubt hi8 v) rfl (by omega) (by omega) (fun n hn => by rw [rng_g2 i hi8] at hn; cases hn; exact hv9)
      have hk3 : ∀ k, k < 24 → tw_m (tw_s_m t2 (upd (tw_m t2) (24 + 5 * i + 2) v)) k = tw_m t k := fun k hk9 => by
        rw [twg_m_m, upd_n (by omega), em]; exact hk k hk9
      obtain ⟨w', s', t', f1, f2, f3, f4⟩ := ih (wd_s_doubt w1 (upd (wd_doubt w1) i v), s2, tw_s_m t2 (upd (tw_m t2) (24 + 5 * i + 2) v)) ⟨hs3, hk3⟩
      refine ⟨w', s', t', ?_, ?_, f3, f4⟩
      · rw [if_pos rfl, g1, mo2_sm]
        unfold fX2_doubts
        simp only [li0, li1, li2, li3, li4, li5, li6, li7, li8, li9, li10, li11, li12, li13, li14, li15, li16, li20, li24, li26, li30, li31, li32, li40, li41, li43, li48, li50, li52, li57, li59, li60, li62, li64, li65, li66, li67, li97, li99, li100, li122, li236, li239, li240, li255, li254, li256, li304, li400, li703, li704, li999, li1000000, li2000000000, li3344, li3648, li9999, li10000, li32767, lm1, hm8, hc8, mlt_e]
        rw [mob_sm, nI_add, hs.1.1.doubt hi8, ← hv]; exact f1
      · intro K
        rw [x_isHere _ hi8, mob_sm, hh, if_pos rfl, x_of _ hi8 (by omega), mob_sm, g2, mo2_sm, x_lesser, mob_sm, x_greater, mob_sm, ← hv, x_put _ hi8 (by omega), mob_sm, nI_add]
        exact f2 K
/-! building, a day's end -/
def qN (m : Nat → Int32) : Int32 := zmn (m 6) (m 7)
def qM (m : Nat → Int32) : Nat → Int32 := upd (upd m 8 (zmn (nI 9999) (m 8 + qN m))) 7 (m 7 - qN m)
theorem qN_ok {m : Nat → Int32} (hI : Inv m) : isN (m 7 - qN m) 9999 ∧ isN (zmn (nI 9999) (m 8 + qN m)) 9999 := by
  obtain ⟨a, ha, ea⟩ := hI 6 9 rfl
  obtain ⟨b, hb, eb⟩ := hI 7 9999 rfl
  obtain ⟨c, hc, ec⟩ := hI 8 9999 rfl
  unfold qN
  rw [ea, eb, ec, zmnN (by omega) (by omega), pk_sub (by omega), nI_add, zmnN (by omega) (by omega)]
  exact ⟨isN_n (by omega), isN_n (by omega)⟩
theorem d_builds (h : SD Sm w0 t0 w t) : ∃ w' : Wd, fX2_builds w = some w' ∧ fX6_builds t = some (tw_s_m t (qM (tw_m t))) ∧ SD Sm w0 t0 w' (tw_s_m t (qM (tw_m t))) := by
  have hW := h.1.1
  obtain ⟨b1, b2⟩ := qN_ok h.1.2.1
  have hs1 := (hW.up_towers (zmn (nI 9999) (tw_m t 8 + qN (tw_m t)))).up_stones (tw_m t 7 - qN (tw_m t))
  refine ⟨_, ?_, ?_, h.row (m' := qM (tw_m t)) hs1 rfl ?_ ?_⟩
  · unfold fX2_builds
    simp only [li0, li1, li2, li3, li4, li5, li6, li7, li8, li9, li10, li11, li12, li13, li14, li15, li16, li20, li24, li26, li30, li31, li32, li40, li41, li43, li48, li50, li52, li57, li59, li60, li62, li64, li65, li66, li67, li97, li99, li100, li122, li236, li239, li240, li255, li254, li256, li304, li400, li703, li704, li999, li1000000, li2000000000, li3344, li3648, li9999, li10000, li32767, lm1, mlt_e]
    rw [hW.towers, hW.masons, hW.stones]
    rw [wdg_towers_stones, hW.stones]
    rfl
  · unfold fX6_builds
    simp only [li0, li1, li2, li3, li4, li5, li6, li7, li8, li9, li10, li11, li12, li13, li14, li15, li16, li20, li24, li26, li30, li31, li32, li40, li41, li43, li48, li50, li52, li57, li59, li60, li62, li64, li65, li66, li67, li97, li99, li100, li122, li236, li239, li240, li255, li254, li256, li304, li400, li703, li704, li999, li1000000, li2000000000, li3344, li3648, li9999, li10000, li32767, lm1, mlt_e]
    rw [x_lesser, mob_sm, x_lesser, mob_sm]
    simp only [twg_m_m]
    rw [upd_n (show 7 ≠ 8 by omega)]
    rfl
  · exact (h.1.2.1.upd 8 _ fun n hn => by cases hn; exact b2).upd 7 _ fun n hn => by cases hn; exact b1
  · intro k hk
    unfold qM
    rw [upd_n (by omega), upd_n (by omega)]
theorem d_ends (h : SD Sm w0 t0 w t) : ∃ w' : Wd, fX2_ends w = some w' ∧ SD Sm w0 t0 w' (tw_s_m t (upd (tw_m t) 10 (zmn (nI 9999) (tw_m t 10 + nI 1)))) := by
  have hW := h.1.1
  obtain ⟨a, ha, ea⟩ := h.1.2.1 10 9999 rfl
  refine ⟨_, ?_, h.set (hW.up_day _) rfl (by omega) (by omega) ?_⟩
  · unfold fX2_ends
    simp only [li0, li1, li2, li3, li4, li5, li6, li7, li8, li9, li10, li11, li12, li13, li14, li15, li16, li20, li24, li26, li30, li31, li32, li40, li41, li43, li48, li50, li52, li57, li59, li60, li62, li64, li65, li66, li67, li97, li99, li100, li122, li236, li239, li240, li255, li254, li256, li304, li400, li703, li704, li999, li1000000, li2000000000, li3344, li3648, li9999, li10000, li32767, lm1, mlt_e]
    rw [hW.day]
  · intro n hn
    cases hn
    rw [ea, nI_add, zmnN (by omega) (by omega)]
    exact isN_n (by omega)
/-! draws -/
def dS (x : Int32) : Int32 := 1103515245 * x + 12345
def dR (x : Int32) (n : Nat) : Int32 := mrm (mus x (nI 16) &&& nI 32767) (nI n)
theorem bt_32767 (i : Nat) : bt (nI 32767) i = decide (i < 15) := by
  rcases Nat.lt_or_ge i 32 with h | h
  · exact (by decide +kernel : ∀ i, i < 32 → bt (nI 32767) i = decide (i < 15)) i h
  · rw [b_big h, decide_eq_false (by omega)]
theorem dR_N (x : Int32) {n : Nat} (h0 : 0 < n) (hn : n ≤ 100) : ∃ j, j < n ∧ dR x n = nI j := by
  obtain ⟨a, ha, ea⟩ : isN (mus x (nI 16) &&& nI 32767) (2 ^ 15 - 1) := isN_bits (by omega) fun i _ hi => by rw [b_and, bt_32767, decide_eq_false (by omega), Bool.and_false]
  refine ⟨a % n, Nat.mod_lt _ h0, ?_⟩
  unfold dR
  rw [ea, mrm_N (by omega) h0 (by omega)]
theorem c_draw (w : Wd) {n : Nat} (h0 : 0 < n) (hn : n ≤ 100) : fX2_draw w (nI n) = some (dR (dS (wd_seed w)) n, wd_s_seed w (dS (wd_seed w))) := by
  unfold fX2_draw
  have hd : (1103515245 : Int32) * wd_seed w + 12345 = dS (wd_seed w) := id rfl
  rw [hd]
  generalize dS (wd_seed w) = z
  unfold dR
  rw [mlt_e, mlt_e, mnz_e _ (fun q => absurd ((nI_eq (b := 0) (by omega) (by omega)).mp q) (by omega)), wdg_seed_seed, li16, li32767]
theorem x_draw (t : Tw) {n : Nat} (h0 : 0 < n) (hn : n ≤ 100) : fX6_draw t (nI n) = some (dR (dS (tw_m t 15)) n, tw_s_m t (upd (tw_m t) 15 (dS (tw_m t 15)))) := by
  unfold fX6_draw
  have hd : (1103515245 : Int32) * tw_m t 15 + 12345 = dS (tw_m t 15) := id rfl
  rw [hd]
  generalize dS (tw_m t 15) = z
  unfold dR
  rw [mlt_e, mnz_e _ (fun q => absurd ((nI_eq (b := 0) (by omega) (by omega)).mp q) (by omega)), twg_m_m, upd_s, li16, li32767]
theorem d_draw (h : SD Sm w0 t0 w t) {n : Nat} (h0 : 0 < n) (hn : n ≤ 100) : ∃ (r : Int32) (w' : Wd), fX2_draw w (nI n) = some (r, w') ∧ fX6_draw t (nI n) = some (r, tw_s_m t (upd (tw_m t) 15 (dS (tw_m t 15)))) ∧ (∃ j, j < n ∧ r = nI j) ∧ SD Sm w0 t0 w' (tw_s_m t (upd (tw_m t) 15 (dS (tw_m t 15)))) := by
  refine ⟨_, _, c_draw w h0 hn, ?_, ?_, ?_⟩
  · rw [x_draw t h0 hn, h.1.1.seed]
  · exact dR_N _ h0 hn
  · rw [h.1.1.seed]
    generalize dS (tw_m t 15) = z
    exact h.set (h.1.1.up_seed z) rfl (by omega) (by omega) (fun n hn => by rw [show rng 15 = none from by decide] at hn; exact nomatch hn)
/-! a look -/
def shS (m : Nat → Int32) (k : Nat) : Nat → Int32 := fun p => if 64 + k < p ∧ p < 304 then m (p - 4) else m p
theorem shS_s (m : Nat → Int32) {k : Nat} (hk : k < 240) (h4 : 4 ≤ k) : upd (shS m k) (64 + k) (m (64 + k - 4)) = shS m (k - 1) := by
  funext p
  unfold shS
  by_cases q : p = 64 + k
  · subst q
    rw [upd_s, if_pos (by omega)]
  · rw [upd_n q]
    by_cases w : 64 + k < p ∧ p < 304
    · rw [if_pos w, if_pos (by omega)]
    · rw [if_neg w, if_neg (by omega)]
theorem x_looksL (t : Tw) (K : Tw → Option Tw) : ∀ (k n : Nat), k < 240 → 3 ≤ k → k < n + 2 → fX6_looks_L4 K n (nI k) (tw_s_m t (shS (tw_m t) k)) = K (tw_s_m t (shS (tw_m t) 3)) := by
  intro k
  induction k with
  | zero => intro n _ h3; exact absurd h3 (by omega)
  | succ k ih =>
    intro n hk h3 hn
    obtain ⟨n, rfl⟩ : ∃ n', n = n' + 1 := ⟨n - 1, by omega⟩
    simp only [fX6_looks_L4, li0, li1, li2, li3, li4, li5, li6, li7, li8, li9, li10, li11, li12, li13, li14, li15, li16, li20, li24, li26, li30, li31, li32, li40, li41, li43, li48, li50, li52, li57, li59, li60, li62, li64, li65, li66, li67, li97, li99, li100, li122, li236, li239, li240, li255, li254, li256, li304, li400, li703, li704, li999, li1000000, li2000000000, li3344, li3648, li9999, li10000, li32767, lm1]
    by_cases q : k + 1 < 4
    · have : k = 2 := by omega
      subst this
      rw [if_pos (by decide +kernel)]
    · rw [if_neg (fun w => q ((nI_ltI (by omega) (by omega)).mp w)), nI_add, pk_sub (by omega), mckN _ (by omega) (by omega), mckN _ (by omega) (by omega), clN (by omega), clN (by omega), mlt_e, nM_pred]
      simp only [twg_m_m]
      have e : shS (tw_m t) (k + 1) (64 + (k + 1) - 4) = tw_m t (64 + (k + 1) - 4) := if_neg (by omega)
      rw [e, shS_s _ hk (by omega), Nat.add_sub_cancel]
      exact ih n (by omega) (by omega) (by omega)
def lkM (m : Nat → Int32) (g : Nat) : Nat → Int32 := upd (upd (upd (upd (upd (upd (upd (shS m 3) 64 (m 10)) 65 (nI g)) 66 (m (24 + 5 * g + 0))) 67 (m 4)) 14 (zmn (nI 60) (m 14 + nI 1))) 11 (m 11 + nI 1)) (24 + 5 * g + 2) (nI 99)
theorem shS_lo (m : Nat → Int32) {p : Nat} (h : p < 68) : shS m 3 p = m p := if_neg (by omega)
theorem x_looksA (t : Tw) (K : Tw → Option Tw) : fX6_looks_L4 K mFU (nI 239) t = K (tw_s_m t (shS (tw_m t) 3)) := by
  have hL := x_looksL t K 239 mFU (by omega) (by omega) (by unfold mFU; omega)
  have : shS (tw_m t) 239 = tw_m t := funext fun p => if_neg (by omega)
  rw [this] at hL
  exact hL
theorem tww_m (t : Tw) (a b : Nat → Int32) : tw_s_m (tw_s_m t a) b = tw_s_m t b := id rfl
theorem x_looks (t : Tw) {g : Nat} (hg : g < 8) : fX6_looks t (nI g) = some (tw_s_m t (lkM (tw_m t) g)) := by
  unfold fX6_looks
  simp only [li0, li1, li2, li3, li4, li5, li6, li7, li8, li9, li10, li11, li12, li13, li14, li15, li16, li20, li24, li26, li30, li31, li32, li40, li41, li43, li48, li50, li52, li57, li59, li60, li62, li64, li65, li66, li67, li97, li99, li100, li122, li236, li239, li240, li255, li254, li256, li304, li400, li703, li704, li999, li1000000, li2000000000, li3344, li3648, li9999, li10000, li32767, lm1, mjn_e, mlt_e]
  rw [x_looksA]
  have r10 : shS (tw_m t) 3 10 = tw_m t 10 := shS_lo _ (by omega)
  have r66 : ∀ x y, upd (upd (shS (tw_m t) 3) 64 x) 65 y (24 + 5 * g + 0) = tw_m t (24 + 5 * g + 0) := fun x y => by rw [upd_n (by omega), upd_n (by omega), shS_lo _ (by omega)]
  have r4 : ∀ x y z, upd (upd (upd (shS (tw_m t) 3) 64 x) 65 y) 66 z 4 = tw_m t 4 := fun x y z => by rw [upd_n (by omega), upd_n (by omega), upd_n (by omega), shS_lo _ (by omega)]
  have r14 : ∀ x y z u, upd (upd (upd (upd (shS (tw_m t) 3) 64 x) 65 y) 66 z) 67 u 14 = tw_m t 14 := fun x y z u => by rw [upd_n (by omega), upd_n (by omega), upd_n (by omega), upd_n (by omega), shS_lo _ (by omega)]
  have r11 : ∀ x y z u v, upd (upd (upd (upd (upd (shS (tw_m t) 3) 64 x) 65 y) 66 z) 67 u) 14 v 11 = tw_m t 11 := fun x y z u v => by rw [upd_n (by omega), upd_n (by omega), upd_n (by omega), upd_n (by omega), upd_n (by omega), shS_lo _ (by omega)]
  simp only [x_of _ hg (show 0 < 5 by omega), mob_sm, twg_m_m, tww_m, x_lesser, r10, r66, r4, r14, r11, x_put _ hg (show 2 < 5 by omega)]
  rfl
theorem cpy04 (f : Nat → Int32) (j : Nat) : va_cpy f f 0 4 236 j = if 4 ≤ j ∧ j < 240 then f (j - 4) else f j := by
  by_cases q : 4 ≤ j ∧ j < 240
  · rw [pk_cpy_in (by omega) (by omega), if_pos q, Nat.zero_add]
  · rw [if_neg q]
    unfold va_cpy
    rw [if_neg (by omega)]
/-- the log, moved and with a new row -/
def lgF (w : Wd) (g : Nat) : Nat → Int32 := upd (upd (upd (upd (va_cpy (wd_log w) (wd_log w) 0 4 236) 0 (wd_day w)) 1 (nI g)) 2 (wd_room w g)) 3 (wd_bath w)
theorem RW.up_lg {w : Wd} {m : Nat → Int32} (h : RW w m) {g : Nat} (hg : g < 8) : RW (wd_s_log w (lgF w g)) (upd (upd (upd (upd (shS m 3) 64 (m 10)) 65 (nI g)) 66 (m (24 + 5 * g + 0))) 67 (m 4)) := by
  have lo : ∀ k, k < 64 → upd (upd (upd (upd (shS m 3) 64 (m 10)) 65 (nI g)) 66 (m (24 + 5 * g + 0))) 67 (m 4) k = m k := fun k hk => by
    rw [upd_n (by omega), upd_n (by omega), upd_n (by omega), upd_n (by omega), shS_lo _ (by omega)]
  refine ⟨⟨h.texts.trans (lo _ (by omega)).symm, h.guests.trans (lo _ (by omega)).symm, h.bath.trans (lo _ (by omega)).symm, h.kept.trans (lo _ (by omega)).symm, h.masons.trans (lo _ (by omega)).symm, h.stones.trans (lo _ (by omega)).symm, h.towers.trans (lo _ (by omega)).symm, h.bore.trans (lo _ (by omega)).symm, h.day.trans (lo _ (by omega)).symm, h.seen.trans (lo _ (by omega)).symm, h.logged.trans (lo _ (by omega)).symm, h.seed.trans (lo _ (by omega)).symm⟩, ?_, ?_, ?_, ?_⟩
  · exact fun c hc => (h.shift hc).trans (lo _ (by omega)).symm
  · exact fun g hg => ⟨(h.room hg).trans (lo _ (by omega)).symm, (h.wish hg).trans (lo _ (by omega)).symm, (h.doubt hg).trans (lo _ (by omega)).symm, (h.keyz hg).trans (lo _ (by omega)).symm, (h.herez hg).trans (lo _ (by omega)).symm⟩
  · exact fun r hr => (h.holes hr).trans (lo _ (by omega)).symm
  · intro j hj
    rw [show wd_log (wd_s_log w (lgF w g)) = lgF w g from id rfl]
    unfold lgF
    by_cases q3 : j = 3
    · subst q3; rw [upd_s, show 64 + 3 = 67 from rfl, upd_s, h.bath]
    · rw [upd_n q3, upd_n (show 64 + j ≠ 67 by omega)]
      by_cases q2 : j = 2
      · subst q2; rw [upd_s, show 64 + 2 = 66 from rfl, upd_s, h.room hg]
      · rw [upd_n q2, upd_n (show 64 + j ≠ 66 by omega)]
        by_cases q1 : j = 1
        · subst q1; rw [upd_s, show 64 + 1 = 65 from rfl, upd_s]
        · rw [upd_n q1, upd_n (show 64 + j ≠ 65 by omega)]
          by_cases q0 : j = 0
          · subst q0; rw [upd_s, show 64 + 0 = 64 from rfl, upd_s, h.day]
          · rw [upd_n q0, upd_n (show 64 + j ≠ 64 by omega), cpy04, if_pos (by omega)]
            unfold shS
            rw [if_pos (by omega), h.log (by omega)]
            congr 1
            omega
theorem ws_log2 (w : Wd) (a b : Nat → Int32) : wd_s_log (wd_s_log w a) b = wd_s_log w b := by
  obtain ⟨a0, a1, a2, a3, a4, a5, a6, a7, a8, a9, a10, a11, a12, a13, a14, a15, a16, a17, a18, a19, a20⟩ := w
  simp only [wd_s_log]
theorem ws_comm (w : Wd) (a d : Int32) (b c : Nat → Int32) : wd_s_logged (wd_s_log (wd_s_doubt (wd_s_seen w a) b) c) d = wd_s_doubt (wd_s_seen (wd_s_logged (wd_s_log w c) d) a) b := by
  obtain ⟨a0, a1, a2, a3, a4, a5, a6, a7, a8, a9, a10, a11, a12, a13, a14, a15, a16, a17, a18, a19, a20⟩ := w
  simp only [wd_s_logged, wd_s_log, wd_s_doubt, wd_s_seen]
theorem c_looks (w : Wd) {g : Nat} (hg : g < 8) : fX2_looks w (nI g) = some (wd_s_doubt (wd_s_seen (wd_s_logged (wd_s_log w (lgF w g)) (zmn (nI 60) (wd_logged w + nI 1))) (wd_seen w + nI 1)) (upd (wd_doubt w) g (nI 99))) := by
  have hm8 : ∀ {α : Type} (K : Option α), mck (nI g) 8 K = K := fun K => mckN K hg (by omega)
  have hc8 : Int32.toNatClampNeg (nI g) = g := clN (by omega)
  unfold fX2_looks lgF
  simp only [li0, li1, li2, li3, li4, li5, li6, li7, li8, li9, li10, li11, li12, li13, li14, li15, li16, li20, li24, li26, li30, li31, li32, li40, li41, li43, li48, li50, li52, li57, li59, li60, li62, li64, li65, li66, li67, li97, li99, li100, li122, li236, li239, li240, li255, li254, li256, li304, li400, li703, li704, li999, li1000000, li2000000000, li3344, li3648, li9999, li10000, li32767, lm1, mlt_e, hm8, hc8, wdg_seen_texts, wdg_seen_guests, wdg_seen_day, wdg_seen_bath, wdg_seen_kept, wdg_seen_masons, wdg_seen_stones, wdg_seen_towers, wdg_seen_bore, wdg_seen_seen, wdg_seen_logged, wdg_seen_seed, wdg_seen_shift, wdg_seen_room, wdg_seen_wish, wdg_seen_doubt, wdg_seen_key, wdg_seen_here, wdg_seen_holes, wdg_seen_log, wdg_seen_law, wdg_doubt_texts, wdg_doubt_guests, wdg_doubt_day, wdg_doubt_bath, wdg_doubt_kept, wdg_doubt_masons, wdg_doubt_stones, wdg_doubt_towers, wdg_doubt_bore, wdg_doubt_seen, wdg_doubt_logged, wdg_doubt_seed, wdg_doubt_shift, wdg_doubt_room, wdg_doubt_wish, wdg_doubt_doubt, wdg_doubt_key, wdg_doubt_here, wdg_doubt_holes, wdg_doubt_log, wdg_doubt_law, wdg_log_texts, wdg_log_guests, wdg_log_day, wdg_log_bath, wdg_log_kept, wdg_log_masons, wdg_log_stones, wdg_log_towers, wdg_log_bore, wdg_log_seen, wdg_log_logged, wdg_log_seed, wdg_log_shift, wdg_log_room, wdg_log_wish, wdg_log_doubt, wdg_log_key, wdg_log_here, wdg_log_holes, wdg_log_log, wdg_log_law, wdg_logged_texts, wdg_logged_guests, wdg_logged_day, wdg_logged_bath, wdg_logged_kept, wdg_logged_masons, wdg_logged_stones, wdg_logged_towers, wdg_logged_bore, wdg_logged_seen, wdg_logged_logged, wdg_logged_seed, wdg_logged_shift, wdg_logged_room, wdg_logged_wish, wdg_logged_doubt, wdg_logged_key, wdg_logged_here, wdg_logged_holes, wdg_logged_log, wdg_logged_law, ws_log2, ws_comm]
theorem d_looks (h : SD Sm w0 t0 w t) {g : Nat} (hg : g < 8) : ∃ w' : Wd, fX2_looks w (nI g) = some w' ∧ fX6_looks t (nI g) = some (tw_s_m t (lkM (tw_m t) g)) ∧ SD Sm w0 t0 w' (tw_s_m t (lkM (tw_m t) g)) := by
  have hW := h.1.1
  refine ⟨_, c_looks w hg, x_looks t hg, ?_⟩
  have h1 := (((hW.up_lg hg).up_logged (zmn (nI 60) (wd_logged w + nI 1))).up_seen (wd_seen w + nI 1)).up_doubt hg (nI 99)
  have e1 : wd_doubt (wd_s_seen (wd_s_logged (wd_s_log w (lgF w g)) (zmn (nI 60) (wd_logged w + nI 1))) (wd_seen w + nI 1)) = wd_doubt w := id rfl
  rw [e1, hW.logged, hW.seen] at h1
  rw [hW.logged, hW.seen]
  refine h.row (m' := lkM (tw_m t) g) h1 rfl ?_ ?_
  · refine h.1.2.1.row fun k n hk => ?_
    have hk64 := rng_304 hk
    unfold lkM
    by_cases q1 : k = 24 + 5 * g + 2
    · subst q1
      rw [rng_g2 g hg] at hk
      cases hk
      exact Or.inr (by rw [upd_s]; exact isN_n (Nat.le_refl _))
    · rw [upd_n q1]
      by_cases q2 : k = 11
      · subst q2
        rw [show rng 11 = none from by decide] at hk
        exact nomatch hk
      · rw [upd_n q2]
        by_cases q3 : k = 14
        · subst q3
          cases hk
          obtain ⟨a, ha, ea⟩ := h.1.2.1 14 60 rfl
          rw [upd_s, ea, nI_add, zmnN (by omega) (by omega)]
          exact Or.inr (isN_n (by omega))
        · rw [upd_n q3, upd_n (by omega), upd_n (by omega), upd_n (by omega), upd_n (by omega), shS_lo _ (by omega)]
          exact Or.inl rfl
  · intro k hk
    unfold lkM
    rw [upd_n (by omega), upd_n (by omega), upd_n (by omega), upd_n (by omega), upd_n (by omega), upd_n (by omega), upd_n (by omega)]
    unfold shS
    rw [if_neg (by omega)]
/-! all look -/
theorem d_look (h : SD Sm w0 t0 w t) (set : Int32) : ∃ (w' : Wd) (t' : Tw), fX1_allLook_L11 set mFU (nI 0) w = some w' ∧ (∀ K : Tw → Option (Int32 × Tw), fX6_goes_L119 K set mFU (nI 0) t = K t') ∧ SD Sm w0 t0 w' t' := by
  obtain ⟨hG, hG8⟩ := h.1.2.1.G
  refine lpU (fun n i (a : Wd × Tw) => ∃ (w' : Wd) (t' : Tw), fX1_allLook_L11 set n (nI i) a.1 = some w' ∧ (∀ K : Tw → Option (Int32 × Tw), fX6_goes_L119 K set n (nI i) a.2 = K t') ∧ SD Sm w0 t0 w' t') (fun i a => SD Sm w0 t0 a.1 a.2 ∧ tw_m a.2 3 = nI (gN (tw_m t))) (gN (tw_m t)) ?_ ?_ (n := mFU) (by unfold mFU; omega) (w, t) ⟨h, hG⟩
  · rintro n ⟨w1, t1⟩ ⟨hs, e3⟩
    have hs : SD Sm w0 t0 w1 t1 := hs
    have e3 : tw_m t1 3 = nI (gN (tw_m t)) := e3
    refine ⟨w1, t1, ?_, ?_, hs⟩
    · simp only [fX1_allLook_L11]
      rw [hs.1.1.guests, e3, if_pos (Int32.le_refl _)]
    · intro K
      simp only [fX6_goes_L119]
      rw [e3, if_pos (Int32.le_refl _)]
  · rintro n i ⟨w1, t1⟩ hi ⟨hs, e3⟩ ih
    have hs : SD Sm w0 t0 w1 t1 := hs
    have e3 : tw_m t1 3 = nI (gN (tw_m t)) := e3
    have hi8 : i < 8 := by omega
    show ∃ (w' : Wd) (t' : Tw), fX1_allLook_L11 set (n + 1) (nI i) w1 = some w' ∧ (∀ K : Tw → Option (Int32 × Tw), fX6_goes_L119 K set (n + 1) (nI i) t1 = K t') ∧ SD Sm w0 t0 w' t'
    simp only [fX1_allLook_L11, fX6_goes_L119, li0, li1, li2, li3, li4, li5, li6, li7, li8, li9, li10, li11, li12, li13, li14, li15, li16, li20, li24, li26, li30, li31, li32, li40, li41, li43, li48, li50, li52, li57, li59, li60, li62, li64, li65, li66, li67, li97, li99, li100, li122, li236, li239, li240, li255, li254, li256, li304, li400, li703, li704, li999, li1000000, li2000000000, li3344, li3648, li9999, li10000, li32767, lm1]
    simp only [hs.1.1.guests, e3, if_neg (nI_ge hi (show gN (tw_m t) < 2 ^ 31 by omega)), c_has set (show i < 31 by omega), x_isOf set (show i < 31 by omega), mob_sm, nI_add]
    cases hb : bt set i
    · obtain ⟨w', t', f1, f2, f3⟩ := ih (w1, t1) ⟨hs, e3⟩
      refine ⟨w', t', ?_, ?_, f3⟩
      · rw [if_neg (by decide)]; exact f1
      · intro K
        rw [if_neg (by decide)]; exact f2 K
    · obtain ⟨r, w2, g1, g2, -, g4⟩ := d_draw hs (n := 10) (by omega) (by omega)
      have e3' : tw_m (tw_s_m t1 (upd (tw_m t1) 15 (dS (tw_m t1 15)))) 3 = nI (gN (tw_m t)) := by rw [twg_m_m, upd_n (by omega), e3]
      simp only [if_true, g1, g2, mo2_sm]
      generalize tw_s_m t1 (upd (tw_m t1) 15 (dS (tw_m t1 15))) = t2 at g4 e3' ⊢
      rw [c_risk g4.1.1 hi8, mob_sm]
      simp only [x_risk t2 hi8, mob_sm]
      by_cases q : sRisk (tw_m t2) i ≤ r
      · obtain ⟨w', t', f1, f2, f3⟩ := ih (w2, t2) ⟨g4, e3'⟩
        refine ⟨w', t', ?_, ?_, f3⟩
        · rw [if_pos q]; exact f1
        · intro K
          rw [if_pos q]; exact f2 K
      · obtain ⟨w3, k1, k2, k3⟩ := d_looks g4 hi8
        have e3'' : tw_m (tw_s_m t2 (lkM (tw_m t2) i)) 3 = nI (gN (tw_m t)) := by
          exact (k3.2.1.2 3 (by omega)).trans ((g4.2.1.2 3 (by omega)).symm.trans e3')
        obtain ⟨w', t', f1, f2, f3⟩ := ih (w3, tw_s_m t2 (lkM (tw_m t2) i)) ⟨k3, e3''⟩
        refine ⟨w', t', ?_, ?_, f3⟩
        · rw [if_neg q, k1, mob_sm]; exact f1
        · intro K
          rw [if_neg q, k2, mob_sm]; exact f2 K
/-- nobody looks -/
theorem x_look0 (t : Tw) (hI : Inv (tw_m t)) (K : Tw → Option (Int32 × Tw)) : fX6_goes_L119 K (nI 0) mFU (nI 0) t = K t := by
  obtain ⟨hG, hG8⟩ := hI.G
  refine loop_c (fun n a i => fX6_goes_L119 K (nI 0) n i a) (fun _ => t) K (gN (tw_m t)) ?_ ?_ (by unfold mFU; omega)
  · intro n
    simp only [fX6_goes_L119]
    rw [hG, if_pos (Int32.le_refl _)]
  · intro n g hg
    simp only [fX6_goes_L119, li0, li1, li2, li3, li4, li5, li6, li7, li8, li9, li10, li11, li12, li13, li14, li15, li16, li20, li24, li26, li30, li31, li32, li40, li41, li43, li48, li50, li52, li57, li59, li60, li62, li64, li65, li66, li67, li97, li99, li100, li122, li236, li239, li240, li255, li254, li256, li304, li400, li703, li704, li999, li1000000, li2000000000, li3344, li3648, li9999, li10000, li32767, lm1]
    rw [hG, if_neg (nI_ge hg (by omega)), x_isOf _ (by omega), mob_sm, bt_0, if_neg (by decide), nI_add]
end DAY
