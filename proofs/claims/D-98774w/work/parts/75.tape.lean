/-! PURE LAWS: the tape -/
section TAPE
variable {Sm : zSem} {us : List Wd} {sh : Kp} {w im : Wd} {rd : Rd} {t : Tw}
theorem a_fault (h : Cp Sm us sh w im rd t) : ∃ r : Int32, fX1_fault sh rd = some r ∧ fX6_fault t = some (r, tw_s_thrown t (nI 0)) := by
  refine ⟨rd_fault rd, rfl, ?_⟩
  unfold fX6_fault
  rw [mlt_e, h.2.2.1]
  rfl
theorem a_end (h : Cp Sm us sh w im rd t) (p : Int32) : ∃ (r : Bool) (rd' : Rd) (t6 : Tw), fX1_end sh rd p = some (r, rd') ∧ fX6_end t p = some (r, t6) ∧ Cp Sm us sh w im rd' t6 := by
  obtain ⟨hW, ⟨hT0, n, hT1, hn, hT2⟩, hf, hIm, hA⟩ := h
  unfold fX1_end fX3_cut fX6_end
  simp only [li0, li1, li2, li3, li4, li5, li6, li7, li8, li9, li10, li11, li12, li13, li14, li15, li16, li20, li24, li26, li30, li31, li32, li40, li41, li43, li48, li50, li52, li57, li59, li60, li62, li64, li65, li66, li67, li97, li99, li100, li122, li236, li239, li240, li255, li254, li256, li304, li400, li703, li704, li999, li1000000, li2000000000, li3344, li3648, li9999, li10000, li32767, lm1, mlt_e]
  rw [x_in, mob_sm, hT0]
  show ∃ (r : Bool) (rd' : Rd) (t6 : Tw), _ ∧ (if rin p (nI 0) (tw_taped t) = true then _ else _) = _ ∧ _
  unfold rin
  by_cases h1 : p < nI 0
  · rw [if_pos h1, decide_eq_true h1]
    simp only [mo2_sm, Bool.not_true, Bool.false_and, Bool.false_eq_true, if_false]
    exact ⟨_, _, _, rfl, rfl, hW, ⟨hT0, n, hT1, hn, hT2⟩, hf, hIm, hA⟩
  · rw [if_neg h1, decide_eq_false h1]
    obtain ⟨j, hj, rfl⟩ := nI_of (x := p) h1
    by_cases h2 : nI j ≤ tw_taped t
    · have h3 : ¬ tw_taped t < nI j := Int32.not_lt.mpr h2
      rw [if_pos h2, decide_eq_false h3]
      simp only [mo2_sm, Bool.not_false, Bool.and_self, if_true]
      rw [hT1, nI_leI hj (by omega)] at h2
      exact ⟨_, _, _, rfl, rfl, hW, ⟨rfl, j, rfl, by omega, fun k hk => hT2 k (by omega)⟩, hf, hIm, hA⟩
    · have h3 : tw_taped t < nI j := Int32.not_le.mp h2
      rw [if_neg h2, decide_eq_true h3]
      simp only [mo2_sm, Bool.not_true, Bool.and_false, Bool.false_eq_true, if_false]
      exact ⟨_, _, _, rfl, rfl, hW, ⟨hT0, n, hT1, hn, hT2⟩, hf, hIm, hA⟩
end TAPE
def cb (x : Int32) (s : Nat) : Int32 := (x >>> (nI s &&& nI 31)).toInt8.toInt32
def rb (x : Int32) (s : Nat) : Int32 := mus x (nI s) &&& nI 255
theorem bt_255 (i : Nat) : bt (nI 255) i = decide (i < 8) := by
  rcases Nat.lt_or_ge i 32 with h | h
  · exact (by decide +kernel : ∀ i, i < 32 → bt (nI 255) i = decide (i < 8)) i h
  · rw [b_big h, decide_eq_false (by omega)]
theorem rb_N (x : Int32) {s : Nat} (hs : s < 32) : isN (rb x s) 255 := isN_bits (n := 8) (by omega) fun i _ hi => by
  unfold rb
  rw [b_and, bt_255, decide_eq_false (by omega), Bool.and_false]
theorem cb_rb (x : Int32) {s : Nat} (hs : s ≤ 24) : cb x s = sb (rb x s) := by
  unfold cb sb
  congr 1
  apply Int8.toBitVec_inj.mp
  rw [Int32.toBitVec_toInt8, Int32.toBitVec_toInt8]
  apply BitVec.eq_of_getLsbD_eq
  intro i hi
  rw [BitVec.getLsbD_signExtend, BitVec.getLsbD_signExtend, if_pos (by omega), if_pos (by omega)]
  have h1 : bt (x >>> (nI s &&& nI 31)) i = bt x (s + i) := by
    rw [show (nI 31) = (31 : Int32) from rfl, b_sshr s (by omega) x (by omega), if_pos (by omega)]
  have h2 : bt (rb x s) i = bt x (s + i) := by
    unfold rb
    rw [b_and, bt_255, decide_eq_true hi, Bool.and_true, mus_e, b_ushr s (by omega)]
  unfold bt at h1 h2
  rw [h1, h2]
/-! feed -/
def srcC (f : Nat → Int32) : Nat → Int32 := fun k => cb (f (k / 4)) (24 - 8 * (k % 4))
def srcR (f : Nat → Int32) : Nat → Int32 := fun k => rb (f (k / 4)) (24 - 8 * (k % 4))
def fdS (rd : Rd) (n : Nat) (f : Nat → Int32) (k : Nat) : Rd := rd_s_length (rd_s_tape rd (cpf (rd_tape rd) n (srcC f) k)) (nI (n + k))
theorem vn_b (x : Int32) : vp_nar .byte (x.toInt8.toInt32) = x.toInt8.toInt32 := by
  unfold vp_nar
  rw [pk_nb]
theorem fd_step (rd : Rd) {n a b : Nat} (f : Nat → Int32) (K : Rd → Option (Int32 × Rd)) (hb : b < 4) (hn : n + (4 * a + b) < 400) (m : Nat) {v v' : Int32} (hv : v = nI (24 - 8 * b)) (ha : a < 5) (hv' : v + (-8 : Int32) = v') : fX3_add_L39 K f (nI a) (m + 1) v (fdS rd n f (4 * a + b)) = fX3_add_L39 K f (nI a) m v' (fdS rd n f (4 * a + b + 1)) := by
  have h0 : ¬ v < 0 := by
    rw [hv]
    exact Int32.not_lt.mpr (nI_le (Nat.zero_le _) (by omega))
  simp only [fX3_add_L39]
  rw [if_neg h0, hv']
  show mck (nI (n + (4 * a + b))) 400 (mlt (rd_s_tape _ (upd (cpf (rd_tape rd) n (srcC f) (4 * a + b)) (Int32.toNatClampNeg (nI (n + (4 * a + b)))) (vp_nar .byte ((f (Int32.toNatClampNeg (nI a)) >>> (v &&& (31 : Int32))).toInt8.toInt32)))) _) = _
  rw [mckN _ hn (by omega), mlt_e, clN (by omega), clN (by omega), vn_b]
  have e : (f a >>> (v &&& (31 : Int32))).toInt8.toInt32 = srcC f (4 * a + b) := by
    unfold srcC cb
    rw [hv, show (4 * a + b) / 4 = a by omega, show (4 * a + b) % 4 = b by omega]
    rfl
  rw [e, cpf_s, mlt_e, mlt_e]
  show fX3_add_L39 K f (nI a) m v' (rd_s_length (rd_s_tape rd (cpf (rd_tape rd) n (srcC f) (4 * a + b + 1))) (nI (n + (4 * a + b)) + 1)) = _
  rw [nI_1]
  rfl
theorem fd_inner (rd : Rd) {n a : Nat} (f : Nat → Int32) (K : Rd → Option (Int32 × Rd)) (ha : a < 5) (hn : n + (4 * a + 4) ≤ 400) : fX3_add_L39 K f (nI a) mFU (24 : Int32) (fdS rd n f (4 * a)) = K (fdS rd n f (4 * (a + 1))) := by
  obtain ⟨m, hm⟩ : ∃ m, mFU = m + 1 + 1 + 1 + 1 + 1 := ⟨99995, by decide +kernel⟩
  rw [hm]
  have s0 := fd_step rd (n := n) (a := a) (b := 0) f K (by omega) (by omega) (m + 1 + 1 + 1 + 1) (v := 24) (v' := 16) (by decide) ha (by decide)
  have s1 := fd_step rd (n := n) (a := a) (b := 1) f K (by omega) (by omega) (m + 1 + 1 + 1) (v := 16) (v' := 8) (by decide) ha (by decide)
  have s2 := fd_step rd (n := n) (a := a) (b := 2) f K (by omega) (by omega) (m + 1 + 1) (v := 8) (v' := 0) (by decide) ha (by decide)
  have s3 := fd_step rd (n := n) (a := a) (b := 3) f K (by omega) (by omega) (m + 1) (v := 0) (v' := -8) (by decide) ha (by decide)
  refine s0.trans (s1.trans (s2.trans (s3.trans ?_)))
  simp only [fX3_add_L39]
  rw [if_pos (by decide), show 4 * (a + 1) = 4 * a + 3 + 1 by omega]
theorem fd_add (rd : Rd) {n : Nat} (f : Nat → Int32) (hl : rd_length rd = nI n) (hn : n + 20 ≤ 400) : fX3_add rd f = some (nI (n + 20), fdS rd n f 20) := by
  unfold fX3_add
  simp only [li0, li1, li2, li3, li4, li5, li6, li7, li8, li9, li10, li11, li12, li13, li14, li15, li16, li20, li24, li26, li30, li31, li32, li40, li41, li43, li48, li50, li52, li57, li59, li60, li62, li64, li65, li66, li67, li97, li99, li100, li122, li236, li239, li240, li255, li254, li256, li304, li400, li703, li704, li999, li1000000, li2000000000, li3344, li3648, li9999, li10000, li32767, lm1, mjn_e]
  rw [hl, nI_add, if_pos ((nI_leI (by omega) (by omega)).mpr hn)]
  have h := loop_c (fun m x i => fX3_add_L23 (fun srd_3 => some (rd_length srd_3, srd_3)) f m i x) (fun a => fdS rd n f (4 * a)) (fun x => some (rd_length x, x)) 5 ?_ ?_ (n := mFU) (by unfold mFU; omega)
  · have e : fdS rd n f (4 * 0) = rd := by
      unfold fdS
      rw [Nat.mul_zero, cpf_0, Nat.add_zero, ← hl]
      rfl
    simp only [e] at h
    exact h
  · intro m
    simp only [fX3_add_L23, li0, li1, li2, li3, li4, li5, li6, li7, li8, li9, li10, li11, li12, li13, li14, li15, li16, li20, li24, li26, li30, li31, li32, li40, li41, li43, li48, li50, li52, li57, li59, li60, li62, li64, li65, li66, li67, li97, li99, li100, li122, li236, li239, li240, li255, li254, li256, li304, li400, li703, li704, li999, li1000000, li2000000000, li3344, li3648, li9999, li10000, li32767, lm1]
    rw [if_pos (Int32.le_refl _)]
  · intro m a ha
    simp only [fX3_add_L23, li0, li1, li2, li3, li4, li5, li6, li7, li8, li9, li10, li11, li12, li13, li14, li15, li16, li20, li24, li26, li30, li31, li32, li40, li41, li43, li48, li50, li52, li57, li59, li60, li62, li64, li65, li66, li67, li97, li99, li100, li122, li236, li239, li240, li255, li254, li256, li304, li400, li703, li704, li999, li1000000, li2000000000, li3344, li3648, li9999, li10000, li32767, lm1, mjn_e]
    rw [if_neg (nI_ge ha (by omega)), mckN _ ha (by omega)]
    have h2 := fd_inner rd (n := n) (a := a) f (fun srd_11 => fX3_add_L23 (fun srd_3 => some (rd_length srd_3, srd_3)) f m (nI a + nI 1) srd_11) ha (by omega)
    rw [show (24 : Int32) = nI 24 from li24] at h2
    refine h2.trans ?_
    rw [nI_add]
def frS (t : Tw) (n : Nat) (f : Nat → Int32) (k : Nat) : Tw := tw_s_taped (tw_s_tape t (cpf (tw_tape t) n (srcR f) k)) (nI (n + k))
theorem fr_pick {α : Type} (p1 p2 p3 p4 p5 : Int32) (K : Int32 → α) {k : Nat} (hk : k < 20) : (if nI 4 ≤ nI k then (if nI 8 ≤ nI k then (if nI 12 ≤ nI k then (if nI 16 ≤ nI k then K p5 else K p4) else K p3) else K p2) else K p1) = K (z5 p1 p2 p3 p4 p5 (k / 4)) := by
  have hle : ∀ a, a < 100 → (nI a ≤ nI k ↔ a ≤ k) := fun a ha => nI_leI (by omega) (by omega)
  by_cases h4 : 4 ≤ k
  · rw [if_pos ((hle 4 (by omega)).mpr h4)]
    by_cases h8 : 8 ≤ k
    · rw [if_pos ((hle 8 (by omega)).mpr h8)]
      by_cases h12 : 12 ≤ k
      · rw [if_pos ((hle 12 (by omega)).mpr h12)]
        by_cases h16 : 16 ≤ k
        · rw [if_pos ((hle 16 (by omega)).mpr h16), show k / 4 = 4 by omega]; rfl
        · rw [if_neg (fun h => h16 ((hle 16 (by omega)).mp h)), show k / 4 = 3 by omega]; rfl
      · rw [if_neg (fun h => h12 ((hle 12 (by omega)).mp h)), show k / 4 = 2 by omega]; rfl
    · rw [if_neg (fun h => h8 ((hle 8 (by omega)).mp h)), show k / 4 = 1 by omega]; rfl
  · rw [if_neg (fun h => h4 ((hle 4 (by omega)).mp h)), show k / 4 = 0 by omega]; rfl
theorem fr_feed (t : Tw) {n : Nat} (p1 p2 p3 p4 p5 : Int32) (hl : tw_taped t = nI n) (hn : n + 20 ≤ 400) : fX6_feed t p1 p2 p3 p4 p5 = some (nI (n + 20), frS (tw_s_thrown t (nI 0)) n (z5 p1 p2 p3 p4 p5) 20) := by
  unfold fX6_feed
  simp only [li0, li1, li2, li3, li4, li5, li6, li7, li8, li9, li10, li11, li12, li13, li14, li15, li16, li20, li24, li26, li30, li31, li32, li40, li41, li43, li48, li50, li52, li57, li59, li60, li62, li64, li65, li66, li67, li97, li99, li100, li122, li236, li239, li240, li255, li254, li256, li304, li400, li703, li704, li999, li1000000, li2000000000, li3344, li3648, li9999, li10000, li32767, lm1, mjn_e, mlt_e]
  show (if tw_taped t + nI 20 ≤ nI 400 then _ else _) = _
  rw [hl, nI_add, if_pos ((nI_leI (by omega) (by omega)).mpr hn)]
  have h := loop_c (fun m x i => fX6_feed_L23 (fun t_4 => some (tw_taped t_4, t_4)) p5 p4 p3 p2 p1 m i x) (fun k => frS (tw_s_thrown t (nI 0)) n (z5 p1 p2 p3 p4 p5) k) (fun x => some (tw_taped x, x)) 20 ?_ ?_ (n := mFU) (by unfold mFU; omega)
  · have e : frS (tw_s_thrown t (nI 0)) n (z5 p1 p2 p3 p4 p5) 0 = tw_s_thrown t (nI 0) := by
      unfold frS
      rw [cpf_0, Nat.add_zero, ← hl]
      rfl
    simp only [e] at h
    exact h
  · intro m
    simp only [fX6_feed_L23, li0, li1, li2, li3, li4, li5, li6, li7, li8, li9, li10, li11, li12, li13, li14, li15, li16, li20, li24, li26, li30, li31, li32, li40, li41, li43, li48, li50, li52, li57, li59, li60, li62, li64, li65, li66, li67, li97, li99, li100, li122, li236, li239, li240, li255, li254, li256, li304, li400, li703, li704, li999, li1000000, li2000000000, li3344, li3648, li9999, li10000, li32767, lm1]
    rw [if_pos (Int32.le_refl _)]
  · intro m k hk
    simp only [fX6_feed_L23, li0, li1, li2, li3, li4, li5, li6, li7, li8, li9, li10, li11, li12, li13, li14, li15, li16, li20, li24, li26, li30, li31, li32, li40, li41, li43, li48, li50, li52, li57, li59, li60, li62, li64, li65, li66, li67, li97, li99, li100, li122, li236, li239, li240, li255, li254, li256, li304, li400, li703, li704, li999, li1000000, li2000000000, li3344, li3648, li9999, li10000, li32767, lm1, mjn_e]
    rw [if_neg (nI_ge hk (by omega))]
    refine (fr_pick p1 p2 p3 p4 p5 (fun y => mck (tw_taped (frS (tw_s_thrown t (nI 0)) n (z5 p1 p2 p3 p4 p5) k)) 400 (mlt (tw_s_tape (frS (tw_s_thrown t (nI 0)) n (z5 p1 p2 p3 p4 p5) k) (upd (tw_tape (frS (tw_s_thrown t (nI 0)) n (z5 p1 p2 p3 p4 p5) k)) (Int32.toNatClampNeg (tw_taped (frS (tw_s_thrown t (nI 0)) n (z5 p1 p2 p3 p4 p5) k))) (mus y (nI 24 - nI 8 * mrm (nI k) (nI 4)) &&& nI 255))) fun t_15 => mlt (tw_s_taped t_15 (tw_taped t_15 + nI 1)) fun t_16 => fX6_feed_L23 (fun t_4 => some (tw_taped t_4, t_4)) p5 p4 p3 p2 p1 m (nI k + nI 1) t_16)) hk).trans ?_
    show mck (nI (n + k)) 400 (mlt (tw_s_tape _ (upd (cpf (tw_tape t) n (srcR (z5 p1 p2 p3 p4 p5)) k) (Int32.toNatClampNeg (nI (n + k))) (mus (z5 p1 p2 p3 p4 p5 (k / 4)) (nI 24 - nI 8 * mrm (nI k) (nI 4)) &&& nI 255))) _) = _
    rw [mckN _ (by omega) (by omega), mlt_e, clN (by omega), mrm_N (by omega) (by omega) (by omega), pk_mul, pk_sub (by omega)]
    rw [show mus (z5 p1 p2 p3 p4 p5 (k / 4)) (nI (24 - 8 * (k % 4))) &&& nI 255 = srcR (z5 p1 p2 p3 p4 p5) k from rfl, cpf_s, mlt_e]
    show fX6_feed_L23 _ p5 p4 p3 p2 p1 m (nI k + nI 1) (tw_s_taped (tw_s_tape (tw_s_thrown t (nI 0)) (cpf (tw_tape t) n (srcR (z5 p1 p2 p3 p4 p5)) (k + 1))) (nI (n + k) + nI 1)) = _
    rw [nI_add, nI_add]
    rfl
theorem a_feed {Sm : zSem} {us : List Wd} {sh : Kp} {w im : Wd} {rd : Rd} {t : Tw} (h : Cp Sm us sh w im rd t) (p1 p2 p3 p4 p5 : Int32) : ∃ (r : Int32) (rd' : Rd) (t6 : Tw), fX3_add rd (z5 p1 p2 p3 p4 p5) = some (r, rd') ∧ fX6_feed t p1 p2 p3 p4 p5 = some (r, t6) ∧ Cp Sm us sh w im rd' t6 ∧ ((tw_taped t6).toNatClampNeg ≤ (tw_taped t).toNatClampNeg + 20) := by
  obtain ⟨hW, ⟨hT0, n, hT1, hn, hT2⟩, hf, hIm, hA⟩ := h
  by_cases hr : n + 20 ≤ 400
  · rw [fd_add rd _ (hT0.trans hT1) hr, fr_feed t p1 p2 p3 p4 p5 hT1 hr]
    refine ⟨_, _, _, rfl, rfl, ⟨hW, ⟨rfl, n + 20, rfl, hr, fun k hk => ?_⟩, hf, hIm, hA⟩, ?_⟩
    · show isN (cpf (tw_tape t) n (srcR (z5 p1 p2 p3 p4 p5)) 20 k) 255 ∧ cpf (rd_tape rd) n (srcC (z5 p1 p2 p3 p4 p5)) 20 k = sb (cpf (tw_tape t) n (srcR (z5 p1 p2 p3 p4 p5)) 20 k)
      rcases Nat.lt_or_ge k n with q | q
      · rw [cpf_out (Or.inl q), cpf_out (Or.inl q)]
        exact hT2 k q
      · obtain ⟨j, rfl⟩ : ∃ j, k = n + j := ⟨k - n, by omega⟩
        rw [cpf_in (by omega), cpf_in (by omega)]
        exact ⟨rb_N _ (by omega), cb_rb _ (by omega)⟩
    · show (nI (n + 20)).toNatClampNeg ≤ _
      rw [hT1, clN (by omega), clN (by omega)]
      exact Nat.le_refl _
  · have hg : ¬ nI (n + 20) ≤ nI 400 := fun q => hr ((nI_leI (by omega) (by omega)).mp q)
    have e1 : fX3_add rd (z5 p1 p2 p3 p4 p5) = some (nM, rd) := by
      unfold fX3_add
      simp only [li0, li1, li2, li3, li4, li5, li6, li7, li8, li9, li10, li11, li12, li13, li14, li15, li16, li20, li24, li26, li30, li31, li32, li40, li41, li43, li48, li50, li52, li57, li59, li60, li62, li64, li65, li66, li67, li97, li99, li100, li122, li236, li239, li240, li255, li254, li256, li304, li400, li703, li704, li999, li1000000, li2000000000, li3344, li3648, li9999, li10000, li32767, lm1, mjn_e]
      rw [hT0, hT1, nI_add, if_neg hg]
    have e2 : fX6_feed t p1 p2 p3 p4 p5 = some (nM, tw_s_thrown t (nI 0)) := by
      unfold fX6_feed
      simp only [li0, li1, li2, li3, li4, li5, li6, li7, li8, li9, li10, li11, li12, li13, li14, li15, li16, li20, li24, li26, li30, li31, li32, li40, li41, li43, li48, li50, li52, li57, li59, li60, li62, li64, li65, li66, li67, li97, li99, li100, li122, li236, li239, li240, li255, li254, li256, li304, li400, li703, li704, li999, li1000000, li2000000000, li3344, li3648, li9999, li10000, li32767, lm1, mjn_e, mlt_e]
      show (if tw_taped t + nI 20 ≤ nI 400 then _ else _) = _
      rw [hT1, nI_add, if_neg hg]
    exact ⟨_, _, _, e1, e2, ⟨hW, ⟨hT0, n, hT1, hn, hT2⟩, hf, hIm, hA⟩, Nat.le_add_right _ _⟩
