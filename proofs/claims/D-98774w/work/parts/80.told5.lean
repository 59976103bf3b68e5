/-! PURE LAWS: look -/
section TOLD5
variable {Sm : zSem} {us : List Wd} {sh : Kp} {w im : Wd} {rd : Rd} {t : Tw}
theorem x_weeks (t : Tw) {N : Nat} {T : Nat → Nat} (hN : N ≤ 20) (hT : TB T N) (ht : ∀ k, k < 2 * N → tw_tape t k = nI (T k)) : ∃ (c : Nat) (F : Nat → Bool), fX6_weeksBy t (nI (2 * N)) = some (nI c, tw_s_fits t F) ∧ c = wc (fun s => alP (wkQ T s) N) 52 ∧ c ≤ 52 ∧ ∀ j, j < 52 → F j = alP (wkQ T j) N := ⟨_, _, x_weeksBy t hN hT ht, rfl, wc_le _ 52, fun j hj => if_pos hj⟩
theorem bored_y (W : Nat → Bool) {c : Nat} (hc : c = wc W 52) : ∃ Y : Int32, (∀ (sh : Kp) (rd : Rd) (K : Int32 → Int32 → Option ((String × Rd) ⊕ (Int32 × Rd))) (mf : Nat), (∀ s, s < 100 → fX1_isWeek sh rd (nI s) = some (W s)) → 60 < mf → fX1_bored_L14 K sh rd mf (nI 0) nM 51 = K (nI c) Y) ∧ ∀ (tt : Tw) (mf : Nat), (∀ j, j < 52 → tw_fits tt j = W j) → 60 < mf → fX6_bored_L45 tt mf (nI 0) = some (Y, tt) :=
  ⟨fd_ W 52, fun sh rd K mf hw hlt => by rw [dn_0, c_boredL W hw hlt, wd_52, hc], fun tt mf hf hlt => x_boredL W hf 52 0 mf (by omega) (by omega)⟩
theorem a_boredX (hlt : 60 < mFU) (h : Cp Sm us sh w im rd t) (b : Bool) : TO cdA (fX1_bored sh rd b) (fX6_bored t b) (Cp Sm us sh w im) := by
  obtain ⟨n, T, h1, h2, h3, h4, h5⟩ := told_pre h
  unfold fX1_bored fX6_bored
  simp only [li0, li1, li2, li3, li4, li5, li6, li7, li8, li9, li10, li11, li12, li13, li14, li15, li16, li20, li24, li26, li30, li31, li32, li40, li41, li43, li48, li50, li52, li57, li59, li60, li62, li64, li65, li66, li67, li97, li99, li100, li122, li236, li239, li240, li255, li254, li256, li304, li400, li703, li704, li999, li1000000, li2000000000, li3344, li3648, li9999, li10000, li32767, lm1, mjn_e, mlt_e]
  rw [c_tells sh rd h2 h3 h5 rin_sb52, x_heard t h1 h3 h4 (by omega), mo2_sm]
  cases hk : tOK n 52 T
  · simp only [Bool.false_eq_true, if_false, if_true, mox_r, mox_l, mob_sm, mo2_sm, bz_f, bz_t, twg_thrown_thrown, twg_thrown_m, t_le00, t_lt00, t_eq00, t_le10, t_lt10, t_eq10, t_le20, t_lt20, t_eq20, t_le30, t_lt30, t_eq30, t_lt01, t_lt02, t_lt03]
    exact told_no h _
  · obtain ⟨N, rfl, hN, hTB⟩ := told_ok hk (by omega)
    obtain ⟨c, F, g1, g2, g3, g4⟩ := x_weeks (tw_s_thrown (tw_s_taped t (nI 0)) (nI 0)) hN hTB (fun k hk => (h4 k hk).1)
    obtain ⟨Y, y1, y2⟩ := bored_y _ g2
    simp only [Bool.false_eq_true, if_false, if_true, mox_r, mox_l, mob_sm, mo2_sm, bz_f, bz_t, twg_thrown_thrown, twg_thrown_m, t_le00, t_lt00, t_eq00, t_le10, t_lt10, t_eq10, t_le20, t_lt20, t_eq20, t_le30, t_lt30, t_eq30, t_lt01, t_lt02, t_lt03]
    rw [if_neg (nIM (by omega)), g1, mo2_sm, y1 sh (rd2 rd) _ mFU (fun s hs => c_isWeek sh (rd2 rd) hN hTB h2 (told_b hTB h5) hs) hlt]
    have hB := y2 (tw_s_fits (tw_s_thrown (tw_s_taped t (nI 0)) (nI 0)) F) mFU (fun j hj => (congrFun (twg_fits_fits _ F) j).trans (g4 j hj)) hlt
    cases b
    · simp only [Bool.false_eq_true, if_false]
      exact Or.inl ⟨_, _, _, rfl, rfl, twg_fits_thrown _ _, (told_cp h (nI 0)).fits F⟩
    · simp only [if_true]
      exact Or.inl ⟨_, _, _, rfl, hB, twg_fits_thrown _ _, (told_cp h (nI 0)).fits F⟩
theorem mFU_60 : 60 < mFU := by unfold mFU; omega
theorem a_bored (h : Cp Sm us sh w im rd t) (b : Bool) : TO cdA (fX1_bored sh rd b) (fX6_bored t b) (Cp Sm us sh w im) := a_boredX mFU_60 h b
end TOLD5
