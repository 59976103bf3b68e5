/-! PURE LAWS: rows put aside, remembered, kept; likens -/
theorem loop_c {α γ : Type} (L : Nat → α → Int32 → γ) (S : Nat → α) (K : α → γ) (G : Nat) (h0 : ∀ n, L (n + 1) (S G) (nI G) = K (S G)) (h1 : ∀ n g, g < G → L (n + 1) (S g) (nI g) = L n (S (g + 1)) (nI (g + 1))) {n : Nat} (hn : G < n) : L n (S 0) (nI 0) = K (S G) := by
  have h := loop_f L (fun g _ => S (g + 1)) K G (fun g x => x = S g) (fun _ _ _ _ => rfl) (fun n x hx => by rw [hx]; exact h0 n) (fun n x g hg hx => by rw [hx]; exact h1 n g hg) hn (S 0) rfl
  exact h.1.trans (by rw [h.2])
/-- a copied run of a row -/
def cpf (dst : Nat → Int32) (d : Nat) (src : Nat → Int32) (n : Nat) : Nat → Int32 := fun k => if d ≤ k ∧ k < d + n then src (k - d) else dst k
theorem cpf_0 (dst : Nat → Int32) (d : Nat) (src : Nat → Int32) : cpf dst d src 0 = dst := funext fun k => if_neg (by omega)
theorem cpf_s (dst : Nat → Int32) (d : Nat) (src : Nat → Int32) (n : Nat) : upd (cpf dst d src n) (d + n) (src n) = cpf dst d src (n + 1) := by
  funext k
  unfold cpf
  by_cases h : k = d + n
  · subst h
    rw [upd_s, if_pos (by omega), Nat.add_sub_cancel_left]
  · rw [upd_n h]
    by_cases q : d ≤ k ∧ k < d + n
    · rw [if_pos q, if_pos (by omega)]
    · rw [if_neg q, if_neg (by omega)]
theorem cpf_in {dst : Nat → Int32} {d : Nat} {src : Nat → Int32} {n k : Nat} (h : k < n) : cpf dst d src n (d + k) = src k := by
  unfold cpf
  rw [if_pos (by omega), Nat.add_sub_cancel_left]
theorem cpf_lo {dst : Nat → Int32} {src : Nat → Int32} {n k : Nat} (h : k < n) : cpf dst 0 src n k = src k := by
  unfold cpf
  rw [if_pos (by omega), Nat.sub_zero]
theorem cpf_out {dst : Nat → Int32} {d : Nat} {src : Nat → Int32} {n k : Nat} (h : k < d ∨ d + n ≤ k) : cpf dst d src n k = dst k := if_neg (by omega)
theorem x_putsAside (t : Tw) : fX6_putsAside t = some (tw_s_aside t (cpf (tw_aside t) 0 (tw_m t) 304)) := by
  unfold fX6_putsAside
  simp only [li0, li1, li2, li3, li4, li5, li6, li7, li8, li9, li10, li11, li12, li13, li14, li15, li16, li20, li24, li26, li30, li31, li32, li40, li41, li43, li48, li50, li52, li57, li59, li60, li62, li64, li65, li66, li67, li97, li99, li100, li122, li236, li239, li240, li255, li254, li256, li304, li400, li703, li704, li999, li1000000, li2000000000, li3344, li3648, li9999, li10000, li32767, lm1]
  have h := loop_c (fun n x i => fX6_putsAside_L2 n i x) (fun g => tw_s_aside t (cpf (tw_aside t) 0 (tw_m t) g)) some 304 ?_ ?_ (n := mFU) (by unfold mFU; omega)
  · rw [cpf_0] at h
    exact h
  · intro n
    simp only [fX6_putsAside_L2, li0, li1, li2, li3, li4, li5, li6, li7, li8, li9, li10, li11, li12, li13, li14, li15, li16, li20, li24, li26, li30, li31, li32, li40, li41, li43, li48, li50, li52, li57, li59, li60, li62, li64, li65, li66, li67, li97, li99, li100, li122, li236, li239, li240, li255, li254, li256, li304, li400, li703, li704, li999, li1000000, li2000000000, li3344, li3648, li9999, li10000, li32767, lm1]
    rw [if_pos (Int32.le_refl _)]
  · intro n g hg
    simp only [fX6_putsAside_L2, li0, li1, li2, li3, li4, li5, li6, li7, li8, li9, li10, li11, li12, li13, li14, li15, li16, li20, li24, li26, li30, li31, li32, li40, li41, li43, li48, li50, li52, li57, li59, li60, li62, li64, li65, li66, li67, li97, li99, li100, li122, li236, li239, li240, li255, li254, li256, li304, li400, li703, li704, li999, li1000000, li2000000000, li3344, li3648, li9999, li10000, li32767, lm1]
    rw [if_neg (nI_ge hg (by omega)), mckN _ (by omega) (by omega), mckN _ (by omega) (by omega), clN (by omega), mlt_e, nI_add]
    have e := cpf_s (tw_aside t) 0 (tw_m t) g
    rw [Nat.zero_add] at e
    rw [← e]
    rfl
theorem x_comesBack (t : Tw) : fX6_comesBack t = some (tw_s_m t (cpf (tw_m t) 0 (tw_aside t) 304)) := by
  unfold fX6_comesBack
  simp only [li0, li1, li2, li3, li4, li5, li6, li7, li8, li9, li10, li11, li12, li13, li14, li15, li16, li20, li24, li26, li30, li31, li32, li40, li41, li43, li48, li50, li52, li57, li59, li60, li62, li64, li65, li66, li67, li97, li99, li100, li122, li236, li239, li240, li255, li254, li256, li304, li400, li703, li704, li999, li1000000, li2000000000, li3344, li3648, li9999, li10000, li32767, lm1]
  have h := loop_c (fun n x i => fX6_comesBack_L2 n i x) (fun g => tw_s_m t (cpf (tw_m t) 0 (tw_aside t) g)) some 304 ?_ ?_ (n := mFU) (by unfold mFU; omega)
  · rw [cpf_0] at h
    exact h
  · intro n
    simp only [fX6_comesBack_L2, li0, li1, li2, li3, li4, li5, li6, li7, li8, li9, li10, li11, li12, li13, li14, li15, li16, li20, li24, li26, li30, li31, li32, li40, li41, li43, li48, li50, li52, li57, li59, li60, li62, li64, li65, li66, li67, li97, li99, li100, li122, li236, li239, li240, li255, li254, li256, li304, li400, li703, li704, li999, li1000000, li2000000000, li3344, li3648, li9999, li10000, li32767, lm1]
    rw [if_pos (Int32.le_refl _)]
  · intro n g hg
    simp only [fX6_comesBack_L2, li0, li1, li2, li3, li4, li5, li6, li7, li8, li9, li10, li11, li12, li13, li14, li15, li16, li20, li24, li26, li30, li31, li32, li40, li41, li43, li48, li50, li52, li57, li59, li60, li62, li64, li65, li66, li67, li97, li99, li100, li122, li236, li239, li240, li255, li254, li256, li304, li400, li703, li704, li999, li1000000, li2000000000, li3344, li3648, li9999, li10000, li32767, lm1]
    rw [if_neg (nI_ge hg (by omega)), mckN _ (by omega) (by omega), mckN _ (by omega) (by omega), clN (by omega), mlt_e, nI_add]
    have e := cpf_s (tw_m t) 0 (tw_aside t) g
    rw [Nat.zero_add] at e
    rw [← e]
    rfl
theorem x_image (t : Tw) : fX6_image t = some (tw_s_hasImage (tw_s_kept (tw_s_thrown t (nI 0)) (cpf (tw_kept t) 0 (tw_m t) 704)) true) := by
  unfold fX6_image
  simp only [li0, li1, li2, li3, li4, li5, li6, li7, li8, li9, li10, li11, li12, li13, li14, li15, li16, li20, li24, li26, li30, li31, li32, li40, li41, li43, li48, li50, li52, li57, li59, li60, li62, li64, li65, li66, li67, li97, li99, li100, li122, li236, li239, li240, li255, li254, li256, li304, li400, li703, li704, li999, li1000000, li2000000000, li3344, li3648, li9999, li10000, li32767, lm1, mlt_e, mjn_e]
  have h := loop_c (fun n x i => fX6_image_L7 (fun t_3 => some (tw_s_hasImage t_3 true)) n i x) (fun g => tw_s_kept (tw_s_thrown t (nI 0)) (cpf (tw_kept t) 0 (tw_m t) g)) (fun x => some (tw_s_hasImage x true)) 704 ?_ ?_ (n := mFU) (by unfold mFU; omega)
  · rw [cpf_0] at h
    exact h
  · intro n
    simp only [fX6_image_L7, li0, li1, li2, li3, li4, li5, li6, li7, li8, li9, li10, li11, li12, li13, li14, li15, li16, li20, li24, li26, li30, li31, li32, li40, li41, li43, li48, li50, li52, li57, li59, li60, li62, li64, li65, li66, li67, li97, li99, li100, li122, li236, li239, li240, li255, li254, li256, li304, li400, li703, li704, li999, li1000000, li2000000000, li3344, li3648, li9999, li10000, li32767, lm1]
    rw [if_pos (Int32.le_refl _)]
  · intro n g hg
    simp only [fX6_image_L7, li0, li1, li2, li3, li4, li5, li6, li7, li8, li9, li10, li11, li12, li13, li14, li15, li16, li20, li24, li26, li30, li31, li32, li40, li41, li43, li48, li50, li52, li57, li59, li60, li62, li64, li65, li66, li67, li97, li99, li100, li122, li236, li239, li240, li255, li254, li256, li304, li400, li703, li704, li999, li1000000, li2000000000, li3344, li3648, li9999, li10000, li32767, lm1]
    rw [if_neg (nI_ge hg (by omega)), mckN _ (by omega) (by omega), mckN _ (by omega) (by omega), clN (by omega), mlt_e, nI_add]
    have e := cpf_s (tw_kept t) 0 (tw_m t) g
    rw [Nat.zero_add] at e
    rw [← e]
    rfl
theorem x_back (t : Tw) : fX6_back t = if tw_hasImage t = true then some (true, tw_s_acted (tw_s_m (tw_s_thrown t (nI 0)) (cpf (tw_m t) 0 (tw_kept t) 704)) (nI 0)) else some (false, tw_s_thrown t (nI 0)) := by
  unfold fX6_back
  simp only [li0, li1, li2, li3, li4, li5, li6, li7, li8, li9, li10, li11, li12, li13, li14, li15, li16, li20, li24, li26, li30, li31, li32, li40, li41, li43, li48, li50, li52, li57, li59, li60, li62, li64, li65, li66, li67, li97, li99, li100, li122, li236, li239, li240, li255, li254, li256, li304, li400, li703, li704, li999, li1000000, li2000000000, li3344, li3648, li9999, li10000, li32767, lm1, mlt_e, mjn_e]
  show (if tw_hasImage t = true then _ else _) = _
  cases hh : tw_hasImage t
  · rw [if_neg (by decide), if_neg (by decide)]
  · rw [if_pos rfl, if_pos rfl]
    have h := loop_c (fun n x i => fX6_back_L16 (fun t_4 => some (true, tw_s_acted t_4 (nI 0))) n i x) (fun g => tw_s_m (tw_s_thrown t (nI 0)) (cpf (tw_m t) 0 (tw_kept t) g)) (fun x => some (true, tw_s_acted x (nI 0))) 704 ?_ ?_ (n := mFU) (by unfold mFU; omega)
    · rw [cpf_0] at h
      exact h
    · intro n
      simp only [fX6_back_L16, li0, li1, li2, li3, li4, li5, li6, li7, li8, li9, li10, li11, li12, li13, li14, li15, li16, li20, li24, li26, li30, li31, li32, li40, li41, li43, li48, li50, li52, li57, li59, li60, li62, li64, li65, li66, li67, li97, li99, li100, li122, li236, li239, li240, li255, li254, li256, li304, li400, li703, li704, li999, li1000000, li2000000000, li3344, li3648, li9999, li10000, li32767, lm1]
      rw [if_pos (Int32.le_refl _)]
    · intro n g hg
      simp only [fX6_back_L16, li0, li1, li2, li3, li4, li5, li6, li7, li8, li9, li10, li11, li12, li13, li14, li15, li16, li20, li24, li26, li30, li31, li32, li40, li41, li43, li48, li50, li52, li57, li59, li60, li62, li64, li65, li66, li67, li97, li99, li100, li122, li236, li239, li240, li255, li254, li256, li304, li400, li703, li704, li999, li1000000, li2000000000, li3344, li3648, li9999, li10000, li32767, lm1]
      rw [if_neg (nI_ge hg (by omega)), mckN _ (by omega) (by omega), mckN _ (by omega) (by omega), clN (by omega), mlt_e, nI_add]
      have e := cpf_s (tw_m t) 0 (tw_kept t) g
      rw [Nat.zero_add] at e
      rw [← e]
      rfl
theorem x_undo0 (t : Tw) (ha : tw_acted t = nI 0) : fX6_undo t = some (false, tw_s_thrown t (nI 0)) := by
  unfold fX6_undo
  simp only [li0, li1, li2, li3, li4, li5, li6, li7, li8, li9, li10, li11, li12, li13, li14, li15, li16, li20, li24, li26, li30, li31, li32, li40, li41, li43, li48, li50, li52, li57, li59, li60, li62, li64, li65, li66, li67, li97, li99, li100, li122, li236, li239, li240, li255, li254, li256, li304, li400, li703, li704, li999, li1000000, li2000000000, li3344, li3648, li9999, li10000, li32767, lm1, mlt_e]
  show (if tw_acted t = nI 0 then _ else fX6_undo_L26 mFU (nI 0) (tw_s_acted (tw_s_thrown t (nI 0)) (tw_acted t - nI 1))) = _
  rw [ha, if_pos rfl]
theorem x_undoS (t : Tw) {a : Nat} (ha : tw_acted t = nI (a + 1)) (ha2 : a + 1 ≤ 12) : fX6_undo t = some (true, tw_s_m (tw_s_acted (tw_s_thrown t (nI 0)) (nI a)) (cpf (tw_m t) 0 (fun k => tw_acts t (304 * a + k)) 304)) := by
  unfold fX6_undo
  simp only [li0, li1, li2, li3, li4, li5, li6, li7, li8, li9, li10, li11, li12, li13, li14, li15, li16, li20, li24, li26, li30, li31, li32, li40, li41, li43, li48, li50, li52, li57, li59, li60, li62, li64, li65, li66, li67, li97, li99, li100, li122, li236, li239, li240, li255, li254, li256, li304, li400, li703, li704, li999, li1000000, li2000000000, li3344, li3648, li9999, li10000, li32767, lm1, mlt_e]
  show (if tw_acted t = nI 0 then _ else fX6_undo_L26 mFU (nI 0) (tw_s_acted (tw_s_thrown t (nI 0)) (tw_acted t - nI 1))) = _
  rw [ha]
  rw [if_neg (fun h => absurd ((nI_eq (by omega) (by omega)).mp h) (by omega)), pk_sub (by omega), Nat.add_sub_cancel]
  have h := loop_c (fun n x i => fX6_undo_L26 n i x) (fun g => tw_s_m (tw_s_acted (tw_s_thrown t (nI 0)) (nI a)) (cpf (tw_m t) 0 (fun k => tw_acts t (304 * a + k)) g)) (fun x => some (true, x)) 304 ?_ ?_ (n := mFU) (by unfold mFU; omega)
  · rw [cpf_0] at h
    exact h
  · intro n
    simp only [fX6_undo_L26, li0, li1, li2, li3, li4, li5, li6, li7, li8, li9, li10, li11, li12, li13, li14, li15, li16, li20, li24, li26, li30, li31, li32, li40, li41, li43, li48, li50, li52, li57, li59, li60, li62, li64, li65, li66, li67, li97, li99, li100, li122, li236, li239, li240, li255, li254, li256, li304, li400, li703, li704, li999, li1000000, li2000000000, li3344, li3648, li9999, li10000, li32767, lm1]
    rw [if_pos (Int32.le_refl _)]
  · intro n g hg
    simp only [fX6_undo_L26, li0, li1, li2, li3, li4, li5, li6, li7, li8, li9, li10, li11, li12, li13, li14, li15, li16, li20, li24, li26, li30, li31, li32, li40, li41, li43, li48, li50, li52, li57, li59, li60, li62, li64, li65, li66, li67, li97, li99, li100, li122, li236, li239, li240, li255, li254, li256, li304, li400, li703, li704, li999, li1000000, li2000000000, li3344, li3648, li9999, li10000, li32767, lm1]
    rw [if_neg (nI_ge hg (by omega))]
    show mck (nI 304 * nI a + nI g) 3648 (mck (nI g) 704 (mlt (tw_s_m _ (upd _ (Int32.toNatClampNeg (nI g)) (tw_acts t (Int32.toNatClampNeg (nI 304 * nI a + nI g))))) _)) = _
    rw [pk_mul, nI_add, mckN _ (by omega) (by omega), mckN _ (by omega) (by omega), clN (by omega), clN (by omega), mlt_e, nI_add]
    have e := cpf_s (tw_m t) 0 (fun k => tw_acts t (304 * a + k)) g
    rw [Nat.zero_add] at e
    rw [← e]
    rfl
/-- the rows remembered behind one act more -/
def remA (t : Tw) (a : Nat) : Nat → Int32 := if a = 12 then cpf (cpf (tw_acts t) 0 (fun k => tw_acts t (k + 304)) 3344) 3344 (tw_m t) 304 else cpf (tw_acts t) (304 * a) (tw_m t) 304
theorem x_rem1 (t : Tw) {a : Nat} (ha : tw_acted t = nI a) (ha2 : a ≤ 11) : fX6_remembers_L52 (fun t_6 => some (tw_s_acted t_6 (tw_acted t_6 + nI 1))) mFU (nI 0) t = some (tw_s_acted (tw_s_acts t (cpf (tw_acts t) (304 * a) (tw_m t) 304)) (nI (a + 1))) := by
  have h := loop_c (fun n x i => fX6_remembers_L52 (fun t_6 => some (tw_s_acted t_6 (tw_acted t_6 + nI 1))) n i x) (fun g => tw_s_acts t (cpf (tw_acts t) (304 * a) (tw_m t) g)) (fun x => some (tw_s_acted x (tw_acted x + nI 1))) 304 ?_ ?_ (n := mFU) (by unfold mFU; omega)
  · rw [cpf_0] at h
    refine h.trans ?_
    show some (tw_s_acted _ (tw_acted t + nI 1)) = _
    rw [ha, nI_add]
  · intro n
    simp only [fX6_remembers_L52, li0, li1, li2, li3, li4, li5, li6, li7, li8, li9, li10, li11, li12, li13, li14, li15, li16, li20, li24, li26, li30, li31, li32, li40, li41, li43, li48, li50, li52, li57, li59, li60, li62, li64, li65, li66, li67, li97, li99, li100, li122, li236, li239, li240, li255, li254, li256, li304, li400, li703, li704, li999, li1000000, li2000000000, li3344, li3648, li9999, li10000, li32767, lm1]
    rw [if_pos (Int32.le_refl _)]
  · intro n g hg
    simp only [fX6_remembers_L52, li0, li1, li2, li3, li4, li5, li6, li7, li8, li9, li10, li11, li12, li13, li14, li15, li16, li20, li24, li26, li30, li31, li32, li40, li41, li43, li48, li50, li52, li57, li59, li60, li62, li64, li65, li66, li67, li97, li99, li100, li122, li236, li239, li240, li255, li254, li256, li304, li400, li703, li704, li999, li1000000, li2000000000, li3344, li3648, li9999, li10000, li32767, lm1]
    rw [if_neg (nI_ge hg (by omega))]
    show mck (nI g) 704 (mck (nI 304 * tw_acted t + nI g) 3648 (mlt (tw_s_acts _ (upd _ (Int32.toNatClampNeg (nI 304 * tw_acted t + nI g)) (tw_m t (Int32.toNatClampNeg (nI g))))) _)) = _
    rw [ha, pk_mul, nI_add, mckN _ (by omega) (by omega), mckN _ (by omega) (by omega), clN (by omega), clN (by omega), mlt_e, nI_add]
    rw [← cpf_s]
    rfl
theorem x_remembers (t : Tw) {a : Nat} (ha : tw_acted t = nI a) (ha2 : a ≤ 12) : fX6_remembers t = some (tw_s_acted (tw_s_acts t (remA t a)) (nI (if a = 12 then 12 else a + 1))) := by
  unfold fX6_remembers remA
  simp only [li0, li1, li2, li3, li4, li5, li6, li7, li8, li9, li10, li11, li12, li13, li14, li15, li16, li20, li24, li26, li30, li31, li32, li40, li41, li43, li48, li50, li52, li57, li59, li60, li62, li64, li65, li66, li67, li97, li99, li100, li122, li236, li239, li240, li255, li254, li256, li304, li400, li703, li704, li999, li1000000, li2000000000, li3344, li3648, li9999, li10000, li32767, lm1, mjn_e, mlt_e]
  rw [ha]
  by_cases h12 : a = 12
  · subst h12
    rw [if_pos rfl, if_pos rfl, if_pos rfl]
    have h := loop_c (fun n x i => fX6_remembers_L11 (fun t_18 => fX6_remembers_L52 (fun t_6 => some (tw_s_acted t_6 (tw_acted t_6 + nI 1))) mFU (nI 0) (tw_s_acted t_18 (tw_acted t_18 - nI 1))) n i x) (fun g => tw_s_acts t (cpf (tw_acts t) 0 (fun k => tw_acts t (k + 304)) g)) (fun x => fX6_remembers_L52 (fun t_6 => some (tw_s_acted t_6 (tw_acted t_6 + nI 1))) mFU (nI 0) (tw_s_acted x (tw_acted x - nI 1))) 3344 ?_ ?_ (n := mFU) (by unfold mFU; omega)
    · rw [cpf_0] at h
      refine h.trans ?_
      have e : tw_acted (tw_s_acts t (cpf (tw_acts t) 0 (fun k => tw_acts t (k + 304)) 3344)) - nI 1 = nI 11 := by
        show tw_acted t - nI 1 = nI 11
        rw [ha, pk_sub (by omega)]
      rw [e]
      exact x_rem1 (tw_s_acted (tw_s_acts t (cpf (tw_acts t) 0 (fun k => tw_acts t (k + 304)) 3344)) (nI 11)) rfl (by omega)
    · intro n
      simp only [fX6_remembers_L11, li0, li1, li2, li3, li4, li5, li6, li7, li8, li9, li10, li11, li12, li13, li14, li15, li16, li20, li24, li26, li30, li31, li32, li40, li41, li43, li48, li50, li52, li57, li59, li60, li62, li64, li65, li66, li67, li97, li99, li100, li122, li236, li239, li240, li255, li254, li256, li304, li400, li703, li704, li999, li1000000, li2000000000, li3344, li3648, li9999, li10000, li32767, lm1]
      rw [if_pos (Int32.le_refl _)]
    · intro n g hg
      simp only [fX6_remembers_L11, li0, li1, li2, li3, li4, li5, li6, li7, li8, li9, li10, li11, li12, li13, li14, li15, li16, li20, li24, li26, li30, li31, li32, li40, li41, li43, li48, li50, li52, li57, li59, li60, li62, li64, li65, li66, li67, li97, li99, li100, li122, li236, li239, li240, li255, li254, li256, li304, li400, li703, li704, li999, li1000000, li2000000000, li3344, li3648, li9999, li10000, li32767, lm1]
      rw [if_neg (nI_ge hg (by omega)), nI_add, mckN _ (by omega) (by omega), mckN _ (by omega) (by omega), clN (by omega), clN (by omega), mlt_e, nI_add]
      have e := cpf_s (tw_acts t) 0 (fun k => tw_acts t (k + 304)) g
      rw [Nat.zero_add] at e
      rw [← e]
      have e2 : tw_acts (tw_s_acts t (cpf (tw_acts t) 0 (fun k => tw_acts t (k + 304)) g)) (g + 304) = tw_acts t (g + 304) := cpf_out (dst := tw_acts t) (d := 0) (src := fun k => tw_acts t (k + 304)) (n := g) (k := g + 304) (Or.inr (by omega))
      rw [e2]
      rfl
  · rw [if_neg (fun h => h12 ((nI_eq (by omega) (by omega)).mp h)), if_neg h12, if_neg h12]
    exact x_rem1 t ha (by omega)
