/-! PURE LAWS: look -/
section TOLD6
variable {Sm : zSem} {us : List Wd} {sh : Kp} {w im : Wd} {rd : Rd} {t : Tw}
def lkV (W : Nat → Bool) (c : Nat) (p : Int32) (s : Nat) : Int32 := zmx (p + bz (W s)) (nI c - (p + bz (W s)))
def lkF (W : Nat → Bool) (c s : Nat) (x : Int32 × Int32 × Int32) : Int32 × Int32 × Int32 := if lkV W c x.2.2 s < x.2.1 then (nI s, lkV W c x.2.2 s, x.2.2 + bz (W s)) else (x.1, x.2.1, x.2.2 + bz (W s))
theorem a_lookX (hlt : 60 < mFU) (h : Cp Sm us sh w im rd t) : TO cdA (fX1_look sh rd) (fX6_look t) (Cp Sm us sh w im) := by
  obtain ⟨n, T, h1, h2, h3, h4, h5⟩ := told_pre h
  unfold fX1_look fX6_look
  simp only [li0, li1, li2, li3, li4, li5, li6, li7, li8, li9, li10, li11, li12, li13, li14, li15, li16, li20, li24, li26, li30, li31, li32, li40, li41, li43, li48, li50, li52, li57, li59, li60, li62, li64, li65, li66, li67, li97, li99, li100, li122, li236, li239, li240, li255, li254, li256, li304, li400, li703, li704, li999, li1000000, li2000000000, li3344, li3648, li9999, li10000, li32767, lm1, mjn_e, mlt_e]
  rw [c_tells sh rd h2 h3 h5 rin_sb52, x_heard t h1 h3 h4 (by omega), mo2_sm]
  cases hk : tOK n 52 T
  · simp only [Bool.false_eq_true, if_false, if_true, mox_r, mox_l, mob_sm, mo2_sm, bz_f, bz_t, twg_thrown_thrown, twg_thrown_m, t_le00, t_lt00, t_eq00, t_le10, t_lt10, t_eq10, t_le20, t_lt20, t_eq20, t_le30, t_lt30, t_eq30, t_lt01, t_lt02, t_lt03]
    exact told_no h _
  · obtain ⟨N, rfl, hN, hTB⟩ := told_ok hk (by omega)
    simp only [Bool.false_eq_true, if_false, if_true, mox_r, mox_l, mob_sm, mo2_sm, bz_f, bz_t, twg_thrown_thrown, twg_thrown_m, t_le00, t_lt00, t_eq00, t_le10, t_lt10, t_eq10, t_le20, t_lt20, t_eq20, t_le30, t_lt30, t_eq30, t_lt01, t_lt02, t_lt03]
    obtain ⟨c, F, g1, g2, hc52, g4⟩ := x_weeks (tw_s_thrown (tw_s_taped t (nI 0)) (nI 0)) hN hTB (fun k hk => (h4 k hk).1)
    rw [if_neg (nIM (by omega)), g1, mo2_sm]
    have hw : ∀ s, s < 100 → fX1_isWeek sh (rd2 rd) (nI s) = some (alP (wkQ T s) N) := fun s hs => c_isWeek sh (rd2 rd) hN hTB h2 (told_b hTB h5) hs
    have hcp := (told_cp h (nI 0)).fits F
    have hf : ∀ j, j < 52 → tw_fits (tw_s_fits (tw_s_thrown (tw_s_taped t (nI 0)) (nI 0)) F) j = alP (wkQ T j) N := fun j hj => (congrFun (twg_fits_fits _ F) j).trans (g4 j hj)
    have hth : tw_thrown (tw_s_fits (tw_s_thrown (tw_s_taped t (nI 0)) (nI 0)) F) = nI 0 := twg_fits_thrown _ _
    generalize tw_s_fits (tw_s_thrown (tw_s_taped t (nI 0)) (nI 0)) F = tt at hcp hf hth ⊢
    obtain ⟨W, hW⟩ : ∃ W : Nat → Bool, W = fun s => alP (wkQ T s) N := ⟨_, rfl⟩
    have hw : ∀ s, s < 100 → fX1_isWeek sh (rd2 rd) (nI s) = some (W s) := fun s hs => by rw [hW]; exact hw s hs
    have hf : ∀ j, j < 52 → tw_fits tt j = W j := fun j hj => by rw [hW]; exact hf j hj
    rw [← hW] at g2
    have ec := g2
    generalize mFU = mf at hlt ⊢
    generalize hK : (fun x1_6 : Int32 => if nI 2 ≤ x1_6 then fX1_look_L57 (rd2 rd) sh x1_6 mf nM (nI 999) (nI 0) (nI 0) else some (Sum.inr (nM, rd2 rd))) = K
    have hA := loop_n (fun m (x : Int32) g => fX1_look_L10 K sh (rd2 rd) m x (nI g)) (fun g => nI (wc W g)) (fun x => K x) 52 ?_ ?_ (n := mf) (by omega)
    · have hA2 : fX1_look_L10 K sh (rd2 rd) mf (nI 0) (nI 0) = K (nI (wc W 52)) := hA
      rw [hA2, ← ec, ← hK]
      show TO cdA (if nI 2 ≤ nI c then fX1_look_L57 (rd2 rd) sh (nI c) mf nM (nI 999) (nI 0) (nI 0) else some (Sum.inr (nM, rd2 rd))) (fX6_look_L49 tt (nI c) mf nM (nI 2000000000) (nI 0) (nI 0)) (Cp Sm us sh w im)
      by_cases q : 2 ≤ c
      · rw [if_pos ((nI_leI (by omega) (by omega)).mpr q)]
        have hA3 := loop_p (fun n (x : Int32 × Int32 × Int32) i => fX1_look_L57 (rd2 rd) sh (nI c) n x.1 x.2.1 x.2.2 i) (lkF W c) (fun x => some (.inr (x.1, rd2 rd))) 52 ?_ ?_ (n := mf) (by omega) (nM, nI 999, nI 0)
        · have hB := loop_p (fun n (x : Int32 × Int32 × Int32) i => fX6_look_L49 tt (nI c) n x.1 x.2.1 x.2.2 i) (fun s x => if s < 52 then lkF W c s x else x) (fun x => some (x.1, tt)) 52 ?_ ?_ (n := mf) (by omega) (nM, nI 2000000000, nI 0)
          · have hm := max_small (W 0) q (by omega)
            have he : fo (lkF W c) 52 (nM, nI 999, nI 0) = fo (lkF W c) 52 (nM, nI 2000000000, nI 0) := fo_first (by
              unfold lkF lkV
              have e0 : nI 0 + bz (W 0) = bz (W 0) := Int32.zero_add _
              simp only [e0]
              rw [if_pos hm.1, if_pos hm.2]) 51
            have he2 : fo (fun s x => if s < 52 then lkF W c s x else x) 52 (nM, nI 2000000000, nI 0) = fo (lkF W c) 52 (nM, nI 2000000000, nI 0) := fo_congr (fun s x hs => if_pos hs) _
            rw [he] at hA3
            rw [he2] at hB
            exact Or.inl ⟨_, _, _, hA3, hB, hth, hcp⟩
          · intro m x
            simp only [fX6_look_L49, li0, li1, li2, li3, li4, li5, li6, li7, li8, li9, li10, li11, li12, li13, li14, li15, li16, li20, li24, li26, li30, li31, li32, li40, li41, li43, li48, li50, li52, li57, li59, li60, li62, li64, li65, li66, li67, li97, li99, li100, li122, li236, li239, li240, li255, li254, li256, li304, li400, li703, li704, li999, li1000000, li2000000000, li3344, li3648, li9999, li10000, li32767, lm1]
            rw [if_pos (Int32.le_refl _)]
          · intro m x s hs
            simp only [fX6_look_L49, li0, li1, li2, li3, li4, li5, li6, li7, li8, li9, li10, li11, li12, li13, li14, li15, li16, li20, li24, li26, li30, li31, li32, li40, li41, li43, li48, li50, li52, li57, li59, li60, li62, li64, li65, li66, li67, li97, li99, li100, li122, li236, li239, li240, li255, li254, li256, li304, li400, li703, li704, li999, li1000000, li2000000000, li3344, li3648, li9999, li10000, li32767, lm1, mjn_e]
            rw [if_neg (nI_ge hs (by omega)), if_neg (fun z => by have := (nI_leI (by omega) (by omega)).mp z; omega), mckN _ hs (by omega), clN (by omega), hf s hs, if_pos hs]
            unfold lkF lkV
            cases W s
            · simp only [Bool.false_eq_true, if_false, if_true, mox_r, mox_l, mob_sm, mo2_sm, bz_f, bz_t, twg_thrown_thrown, twg_thrown_m, t_le00, t_lt00, t_eq00, t_le10, t_lt10, t_eq10, t_le20, t_lt20, t_eq20, t_le30, t_lt30, t_eq30, t_lt01, t_lt02, t_lt03, x_greater, nI_add]
              split <;> rfl
            · simp only [Bool.false_eq_true, if_false, if_true, mox_r, mox_l, mob_sm, mo2_sm, bz_f, bz_t, twg_thrown_thrown, twg_thrown_m, t_le00, t_lt00, t_eq00, t_le10, t_lt10, t_eq10, t_le20, t_lt20, t_eq20, t_le30, t_lt30, t_eq30, t_lt01, t_lt02, t_lt03, x_greater, nI_add]
              split <;> rfl
        · intro m x
          simp only [fX1_look_L57, li0, li1, li2, li3, li4, li5, li6, li7, li8, li9, li10, li11, li12, li13, li14, li15, li16, li20, li24, li26, li30, li31, li32, li40, li41, li43, li48, li50, li52, li57, li59, li60, li62, li64, li65, li66, li67, li97, li99, li100, li122, li236, li239, li240, li255, li254, li256, li304, li400, li703, li704, li999, li1000000, li2000000000, li3344, li3648, li9999, li10000, li32767, lm1]
          rw [if_pos (Int32.le_refl _)]
        · intro m x s hs
          simp only [fX1_look_L57, li0, li1, li2, li3, li4, li5, li6, li7, li8, li9, li10, li11, li12, li13, li14, li15, li16, li20, li24, li26, li30, li31, li32, li40, li41, li43, li48, li50, li52, li57, li59, li60, li62, li64, li65, li66, li67, li97, li99, li100, li122, li236, li239, li240, li255, li254, li256, li304, li400, li703, li704, li999, li1000000, li2000000000, li3344, li3648, li9999, li10000, li32767, lm1, mjn_e]
          rw [if_neg (nI_ge hs (by omega)), hw s (by omega), mob_sm]
          unfold lkF lkV
          cases W s
          · simp only [Bool.false_eq_true, if_false, if_true, mox_r, mox_l, mob_sm, mo2_sm, bz_f, bz_t, twg_thrown_thrown, twg_thrown_m, t_le00, t_lt00, t_eq00, t_le10, t_lt10, t_eq10, t_le20, t_lt20, t_eq20, t_le30, t_lt30, t_eq30, t_lt01, t_lt02, t_lt03, nI_add]
            split <;> rfl
          · simp only [Bool.false_eq_true, if_false, if_true, mox_r, mox_l, mob_sm, mo2_sm, bz_f, bz_t, twg_thrown_thrown, twg_thrown_m, t_le00, t_lt00, t_eq00, t_le10, t_lt10, t_eq10, t_le20, t_lt20, t_eq20, t_le30, t_lt30, t_eq30, t_lt01, t_lt02, t_lt03, nI_add]
            split <;> rfl
      · rw [if_neg (fun z => q ((nI_leI (by omega) (by omega)).mp z))]
        obtain ⟨mg, rfl⟩ : ∃ q, mf = q + 1 := ⟨mf - 1, by omega⟩
        have hB : fX6_look_L49 tt (nI c) (mg + 1) nM (nI 2000000000) (nI 0) (nI 0) = some (nM, tt) := by
          simp only [fX6_look_L49, li0, li1, li2, li3, li4, li5, li6, li7, li8, li9, li10, li11, li12, li13, li14, li15, li16, li20, li24, li26, li30, li31, li32, li40, li41, li43, li48, li50, li52, li57, li59, li60, li62, li64, li65, li66, li67, li97, li99, li100, li122, li236, li239, li240, li255, li254, li256, li304, li400, li703, li704, li999, li1000000, li2000000000, li3344, li3648, li9999, li10000, li32767, lm1]
          rw [if_neg (nI_ge (by omega) (by omega)), if_pos ((nI_leI (by omega) (by omega)).mpr (by omega))]
        exact Or.inl ⟨_, _, _, rfl, hB, hth, hcp⟩
    · intro m
      simp only [fX1_look_L10, li0, li1, li2, li3, li4, li5, li6, li7, li8, li9, li10, li11, li12, li13, li14, li15, li16, li20, li24, li26, li30, li31, li32, li40, li41, li43, li48, li50, li52, li57, li59, li60, li62, li64, li65, li66, li67, li97, li99, li100, li122, li236, li239, li240, li255, li254, li256, li304, li400, li703, li704, li999, li1000000, li2000000000, li3344, li3648, li9999, li10000, li32767, lm1]
      rw [if_pos (Int32.le_refl _)]
    · intro m g hg
      simp only [fX1_look_L10, li0, li1, li2, li3, li4, li5, li6, li7, li8, li9, li10, li11, li12, li13, li14, li15, li16, li20, li24, li26, li30, li31, li32, li40, li41, li43, li48, li50, li52, li57, li59, li60, li62, li64, li65, li66, li67, li97, li99, li100, li122, li236, li239, li240, li255, li254, li256, li304, li400, li703, li704, li999, li1000000, li2000000000, li3344, li3648, li9999, li10000, li32767, lm1]
      rw [if_neg (nI_ge hg (by omega)), hw g (by omega), mob_sm, nI_add, nI_add, nI_add]
      show _ = fX1_look_L10 K sh (rd2 rd) m (nI (wc W g + (if W g = true then 1 else 0))) (nI (g + 1))
      cases W g <;> rfl
theorem a_look (h : Cp Sm us sh w im rd t) : TO cdA (fX1_look sh rd) (fX6_look t) (Cp Sm us sh w im) := a_lookX mFU_60 h
end TOLD6
