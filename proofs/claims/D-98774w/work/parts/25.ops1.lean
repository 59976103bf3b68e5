/-! PURE LAWS: questions that change nothing -/
theorem lpU {α : Type} (L : Nat → Nat → α → Prop) (I : Nat → α → Prop) (N : Nat) (hx : ∀ n a, I N a → L (n + 1) N a) (hs : ∀ n i a, i < N → I i a → (∀ a', I (i + 1) a' → L n (i + 1) a') → L (n + 1) i a) {n : Nat} (hn : N < n) (a : α) (h : I 0 a) : L n 0 a := by
  have key : ∀ k n i a, i + k = N → k < n → I i a → L n i a := by
    intro k
    induction k with
    | zero =>
      intro n i a hi hk h
      obtain ⟨n, rfl⟩ : ∃ n', n = n' + 1 := ⟨n - 1, by omega⟩
      have : i = N := by omega
      subst this
      exact hx n a h
    | succ k ih =>
      intro n i a hi hk h
      obtain ⟨n, rfl⟩ : ∃ n', n = n' + 1 := ⟨n - 1, by omega⟩
      exact hs n i a (by omega) h (fun a' h' => ih n (i + 1) a' (by omega) (by omega) h')
  exact key N n 0 a (by omega) hn h
/-- downwards -/
theorem lpD {α : Type} (L : Nat → Nat → α → Prop) (I : Nat → α → Prop) (hx : ∀ n a, I 0 a → L (n + 1) 0 a) (hs : ∀ n i a, I (i + 1) a → (∀ a', I i a' → L n i a') → L (n + 1) (i + 1) a) : ∀ (i n : Nat) (a : α), i < n → I i a → L n i a := by
  intro i
  induction i with
  | zero =>
    intro n a hn h
    obtain ⟨n, rfl⟩ : ∃ n', n = n' + 1 := ⟨n - 1, by omega⟩
    exact hx n a h
  | succ i ih =>
    intro n a hn h
    obtain ⟨n, rfl⟩ : ∃ n', n = n' + 1 := ⟨n - 1, by omega⟩
    exact hs n i a h (fun a' h' => ih n a' (by omega) h')
section OPS
variable {w : Wd} {t : Tw}
theorem b_both (h : RW w (tw_m t)) : ∃ r, fX1_both_L2 w mFU (nI 0) = some r ∧ fX6_both_L7 t mFU (nI 0) = some (r, t) := by
  refine lpU (α := Unit) (fun n i _ => ∃ r, fX1_both_L2 w n (nI i) = some r ∧ fX6_both_L7 t n (nI i) = some (r, t)) (fun _ _ => True) 401 ?_ ?_ (by decide) () trivial
  · intro n _ _
    simp only [fX1_both_L2, fX6_both_L7, li0, li1, li2, li3, li4, li5, li6, li7, li8, li9, li10, li11, li12, li13, li14, li15, li16, li20, li24, li26, li30, li31, li32, li40, li41, li43, li48, li50, li52, li57, li59, li60, li62, li64, li65, li66, li67, li97, li99, li100, li122, li236, li239, li240, li255, li254, li256, li304, li400, li703, li704, li999, li1000000, li2000000000, li3344, li3648, li9999, li10000, li32767, lm1]
    rw [if_pos (nI_lt (by omega) (by omega)), if_pos (nI_lt (by omega) (by omega))]
    exact ⟨_, rfl, rfl⟩
  · intro n i _ hi _ ih
    simp only [fX1_both_L2, fX6_both_L7, li0, li1, li2, li3, li4, li5, li6, li7, li8, li9, li10, li11, li12, li13, li14, li15, li16, li20, li24, li26, li30, li31, li32, li40, li41, li43, li48, li50, li52, li57, li59, li60, li62, li64, li65, li66, li67, li97, li99, li100, li122, li236, li239, li240, li255, li254, li256, li304, li400, li703, li704, li999, li1000000, li2000000000, li3344, li3648, li9999, li10000, li32767, lm1]
    rw [if_neg (nI_nlt (by omega) (by omega)), if_neg (nI_nlt (by omega) (by omega)), c_isSat h (by omega), c_isSat h (by omega), x_isSat t (by omega), x_isSat t (by omega), h.day, nI_add]
    simp only [mob_sm]
    obtain ⟨r, h1, h2⟩ := ih () trivial
    rw [h1, h2]
    cases sSat (tw_m t) 0 (tw_m t 10 + nI i)
    · exact ⟨_, rfl, rfl⟩
    · cases sSat (tw_m t) 1 (tw_m t 10 + nI i)
      · exact ⟨_, rfl, rfl⟩
      · exact ⟨_, rfl, rfl⟩
theorem o_both (h : RW w (tw_m t)) (sh : Kp) : ∃ r, fX1_both sh w = some r ∧ fX6_both t = some (r, tw_s_thrown t 0) := by
  unfold fX1_both fX6_both
  rw [mlt_e]
  simp only [li0, li1, li2, li3, li4, li5, li6, li7, li8, li9, li10, li11, li12, li13, li14, li15, li16, li20, li24, li26, li30, li31, li32, li40, li41, li43, li48, li50, li52, li57, li59, li60, li62, li64, li65, li66, li67, li97, li99, li100, li122, li236, li239, li240, li255, li254, li256, li304, li400, li703, li704, li999, li1000000, li2000000000, li3344, li3648, li9999, li10000, li32767, lm1]
  exact b_both (t := tw_s_thrown t (nI 0)) h
theorem o_odds (h : RW w (tw_m t)) (hI : Inv (tw_m t)) (sh : Kp) : ∃ r, fX1_odds sh w = some r ∧ fX6_odds t = some (r, tw_s_thrown t 0) := by
  obtain ⟨b, hb, e⟩ := hI 4 7 rfl
  refine ⟨sOdds (tw_m t) (sWatch (tw_m t) b), ?_, ?_⟩
  · unfold fX1_odds
    rw [h.bath, e, c_watchers h hI (by omega), mob_sm, c_oddsOf h hI, mob_sm]
  · unfold fX6_odds
    rw [mlt_e, show tw_m (tw_s_thrown t 0) 4 = tw_m t 4 from rfl, e, x_watchers (tw_s_thrown t 0) hI (by omega), mob_sm, x_oddsOf (tw_s_thrown t 0) hI, mob_sm]
    rfl
theorem o_send (h : RW w (tw_m t)) (hI : Inv (tw_m t)) (sh : Kp) : ∃ r, fX1_send sh w = some r ∧ fX6_send t = some (r, tw_s_thrown t 0) := by
  obtain ⟨b, hb, e⟩ := hI 4 7 rfl
  refine ⟨sWatch (tw_m t) b, ?_, ?_⟩
  · unfold fX1_send
    rw [h.bath, e, c_watchers h hI (by omega), mob_sm]
  · unfold fX6_send
    rw [mlt_e, show tw_m (tw_s_thrown t 0) 4 = tw_m t 4 from rfl, e, x_watchers (tw_s_thrown t 0) hI (by omega), mob_sm]
    rfl
theorem b_mend (h : RW w (tw_m t)) (hI : Inv (tw_m t)) : ∃ r, fX1_mend_L4 w mFU (nI 0) (nI 0) = some r ∧ fX6_mend_L9 t mFU (nI 0) (nI 0) = some (r, t) := by
  obtain ⟨b, hb, e⟩ := hI 4 7 rfl
  have h1 := loop_p (fun n a i => fX1_mend_L4 w n a i) (fun r a => a + nI (if sIn (tw_m t) r = nI 0 then 0 else if bt (tw_m t (16 + r)) b = true then 1 else 0)) some 8 ?_ ?_ (n := mFU) (by decide) (nI 0)
  have h2 := loop_p (fun n a i => fX6_mend_L9 t n a i) (fun r a => a + nI (if sIn (tw_m t) r = nI 0 then 0 else if bt (tw_m t (16 + r)) b = true then 1 else 0)) (fun a => some (a, t)) 8 ?_ ?_ (n := mFU) (by decide) (nI 0)
  · exact ⟨_, h1, h2⟩
  · intro n a
    simp only [fX6_mend_L9, li0, li1, li2, li3, li4, li5, li6, li7, li8, li9, li10, li11, li12, li13, li14, li15, li16, li20, li24, li26, li30, li31, li32, li40, li41, li43, li48, li50, li52, li57, li59, li60, li62, li64, li65, li66, li67, li97, li99, li100, li122, li236, li239, li240, li255, li254, li256, li304, li400, li703, li704, li999, li1000000, li2000000000, li3344, li3648, li9999, li10000, li32767, lm1]
    rw [if_pos (Int32.le_refl _)]
  · intro n a g hg
    simp only [fX6_mend_L9, li0, li1, li2, li3, li4, li5, li6, li7, li8, li9, li10, li11, li12, li13, li14, li15, li16, li20, li24, li26, li30, li31, li32, li40, li41, li43, li48, li50, li52, li57, li59, li60, li62, li64, li65, li66, li67, li97, li99, li100, li122, li236, li239, li240, li255, li254, li256, li304, li400, li703, li704, li999, li1000000, li2000000000, li3344, li3648, li9999, li10000, li32767, lm1]
    rw [if_neg (nI_ge hg (by omega)), e, x_isHole t hg (by omega), mob_sm, x_guestsIn t hI hg, mob_sm, nI_add]
    cases bt (tw_m t (16 + g)) b <;> by_cases q : sIn (tw_m t) g = nI 0 <;> simp [q]
  · intro n a
    simp only [fX1_mend_L4, li0, li1, li2, li3, li4, li5, li6, li7, li8, li9, li10, li11, li12, li13, li14, li15, li16, li20, li24, li26, li30, li31, li32, li40, li41, li43, li48, li50, li52, li57, li59, li60, li62, li64, li65, li66, li67, li97, li99, li100, li122, li236, li239, li240, li255, li254, li256, li304, li400, li703, li704, li999, li1000000, li2000000000, li3344, li3648, li9999, li10000, li32767, lm1]
    rw [if_pos (Int32.le_refl _)]
  · intro n a g hg
    simp only [fX1_mend_L4, li0, li1, li2, li3, li4, li5, li6, li7, li8, li9, li10, li11, li12, li13, li14, li15, li16, li20, li24, li26, li30, li31, li32, li40, li41, li43, li48, li50, li52, li57, li59, li60, li62, li64, li65, li66, li67, li97, li99, li100, li122, li236, li239, li240, li255, li254, li256, li304, li400, li703, li704, li999, li1000000, li2000000000, li3344, li3648, li9999, li10000, li32767, lm1]
    rw [if_neg (nI_ge hg (by omega)), c_inside h hI hg, mob_sm, mckN _ hg (by omega), clN (by omega), h.holes hg, h.bath, e, c_has _ (by omega), mob_sm, nI_add]
    cases bt (tw_m t (16 + g)) b <;> by_cases q : sIn (tw_m t) g = nI 0 <;> simp [q]
theorem o_mend (h : RW w (tw_m t)) (hI : Inv (tw_m t)) (sh : Kp) : ∃ r, fX1_mend sh w = some r ∧ fX6_mend t = some (r, tw_s_thrown t 0) := by
  unfold fX1_mend fX6_mend
  rw [mlt_e]
  simp only [li0, li1, li2, li3, li4, li5, li6, li7, li8, li9, li10, li11, li12, li13, li14, li15, li16, li20, li24, li26, li30, li31, li32, li40, li41, li43, li48, li50, li52, li57, li59, li60, li62, li64, li65, li66, li67, li97, li99, li100, li122, li236, li239, li240, li255, li254, li256, li304, li400, li703, li704, li999, li1000000, li2000000000, li3344, li3648, li9999, li10000, li32767, lm1]
  exact b_mend (t := tw_s_thrown t (nI 0)) h hI
theorem b_quiet (h : RW w (tw_m t)) (hI : Inv (tw_m t)) : ∃ r, fX1_quiet_L4 w mFU (nI 0) (nI 0) = some r ∧ fX6_quiet_L9 t mFU (nI 0) (nI 0) = some (r, t) := by
  have h1 := loop_p (fun n a i => fX1_quiet_L4 w n a i) (fun r a => a ||| ob (decide (sWatch (tw_m t) r = nI 0)) r) some 8 ?_ ?_ (n := mFU) (by decide) (nI 0)
  have h2 := loop_p (fun n a i => fX6_quiet_L9 t n a i) (fun r a => a ||| ob (decide (sWatch (tw_m t) r = nI 0)) r) (fun a => some (a, t)) 8 ?_ ?_ (n := mFU) (by decide) (nI 0)
  · exact ⟨_, h1, h2⟩
  · intro n a
    simp only [fX6_quiet_L9, li0, li1, li2, li3, li4, li5, li6, li7, li8, li9, li10, li11, li12, li13, li14, li15, li16, li20, li24, li26, li30, li31, li32, li40, li41, li43, li48, li50, li52, li57, li59, li60, li62, li64, li65, li66, li67, li97, li99, li100, li122, li236, li239, li240, li255, li254, li256, li304, li400, li703, li704, li999, li1000000, li2000000000, li3344, li3648, li9999, li10000, li32767, lm1]
    rw [if_pos (Int32.le_refl _)]
  · intro n a g hg
    simp only [fX6_quiet_L9, li0, li1, li2, li3, li4, li5, li6, li7, li8, li9, li10, li11, li12, li13, li14, li15, li16, li20, li24, li26, li30, li31, li32, li40, li41, li43, li48, li50, li52, li57, li59, li60, li62, li64, li65, li66, li67, li97, li99, li100, li122, li236, li239, li240, li255, li254, li256, li304, li400, li703, li704, li999, li1000000, li2000000000, li3344, li3648, li9999, li10000, li32767, lm1]
    rw [if_neg (nI_ge hg (by omega)), x_watchers t hI hg, mob_sm, nI_add]
    unfold ob one
    by_cases q : sWatch (tw_m t) g = nI 0 <;> simp [q]
  · intro n a
    simp only [fX1_quiet_L4, li0, li1, li2, li3, li4, li5, li6, li7, li8, li9, li10, li11, li12, li13, li14, li15, li16, li20, li24, li26, li30, li31, li32, li40, li41, li43, li48, li50, li52, li57, li59, li60, li62, li64, li65, li66, li67, li97, li99, li100, li122, li236, li239, li240, li255, li254, li256, li304, li400, li703, li704, li999, li1000000, li2000000000, li3344, li3648, li9999, li10000, li32767, lm1]
    rw [if_pos (Int32.le_refl _)]
  · intro n a g hg
    simp only [fX1_quiet_L4, li0, li1, li2, li3, li4, li5, li6, li7, li8, li9, li10, li11, li12, li13, li14, li15, li16, li20, li24, li26, li30, li31, li32, li40, li41, li43, li48, li50, li52, li57, li59, li60, li62, li64, li65, li66, li67, li97, li99, li100, li122, li236, li239, li240, li255, li254, li256, li304, li400, li703, li704, li999, li1000000, li2000000000, li3344, li3648, li9999, li10000, li32767, lm1]
    rw [if_neg (nI_ge hg (by omega)), c_watchers h hI hg, mob_sm, nI_add]
    unfold ob one
    by_cases q : sWatch (tw_m t) g = nI 0 <;> simp [q]
theorem o_quiet (h : RW w (tw_m t)) (hI : Inv (tw_m t)) (sh : Kp) : ∃ r, fX1_quiet sh w = some r ∧ fX6_quiet t = some (r, tw_s_thrown t 0) := by
  unfold fX1_quiet fX6_quiet
  rw [mlt_e]
  simp only [li0, li1, li2, li3, li4, li5, li6, li7, li8, li9, li10, li11, li12, li13, li14, li15, li16, li20, li24, li26, li30, li31, li32, li40, li41, li43, li48, li50, li52, li57, li59, li60, li62, li64, li65, li66, li67, li97, li99, li100, li122, li236, li239, li240, li255, li254, li256, li304, li400, li703, li704, li999, li1000000, li2000000000, li3344, li3648, li9999, li10000, li32767, lm1]
  exact b_quiet (t := tw_s_thrown t (nI 0)) h hI
end OPS
