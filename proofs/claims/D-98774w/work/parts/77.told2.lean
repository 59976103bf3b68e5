/-! PURE LAWS: shifts that fit, weeks that fit -/
def TB (T : Nat → Nat) (N : Nat) : Prop := ∀ k, k < 2 * N → T k < 100
def shQ (T : Nat → Nat) (s j : Nat) : Bool := decide ((T (2 * j) + s) % 7 = 6) == decide (T (2 * j + 1) = 1)
theorem bzI (a b : Bool) (α : Type) (x y : α) : (if bz a = bz b then x else y) = if (a == b) = true then x else y := by cases a <;> cases b <;> rfl
theorem c_isShift (sh : Kp) (rd : Rd) {N s : Nat} {T : Nat → Nat} (hN : N ≤ 20) (hT : TB T N) (he : rd_end_ rd = nI (2 * N)) (ht : ∀ k, k < 2 * N → rd_tape rd k = nI (T k)) (hs : s < 100) : fX1_isShift sh rd (nI s) = some (alP (shQ T s) N) := by
  unfold fX1_isShift
  simp only [li0, li1, li2, li3, li4, li5, li6, li7, li8, li9, li10, li11, li12, li13, li14, li15, li16, li20, li24, li26, li30, li31, li32, li40, li41, li43, li48, li50, li52, li57, li59, li60, li62, li64, li65, li66, li67, li97, li99, li100, li122, li236, li239, li240, li255, li254, li256, li304, li400, li703, li704, li999, li1000000, li2000000000, li3344, li3648, li9999, li10000, li32767, lm1]
  have h := loop_all (fun m j => fX1_isShift_L7 rd (nI s) m (nI (2 * j))) (some true) (some false) (shQ T s) N ?_ ?_ ?_ (m := mFU) (by unfold mFU; omega)
  · refine h.trans ?_
    cases alP (shQ T s) N <;> rfl
  · intro m
    simp only [fX1_isShift_L7]
    rw [he, if_pos (Int32.le_refl _)]
  all_goals
    intro m j hj hp
    have h1 := hT (2 * j) (by omega)
    have h2 := hT (2 * j + 1) (by omega)
    have e1 : (nI ((T (2 * j) + s) % 7) = nI 6) ↔ (T (2 * j) + s) % 7 = 6 := nI_eq (by omega) (by omega)
    have e2 : (nI (T (2 * j + 1)) = nI 1) ↔ T (2 * j + 1) = 1 := nI_eq (by omega) (by omega)
    have hm : ∀ K : Option Bool, mck (nI (2 * j + 1)) 400 K = K := fun K => mckN K (by omega) (by omega)
    unfold shQ at hp
    simp only [fX1_isShift_L7, li0, li1, li2, li3, li4, li5, li6, li7, li8, li9, li10, li11, li12, li13, li14, li15, li16, li20, li24, li26, li30, li31, li32, li40, li41, li43, li48, li50, li52, li57, li59, li60, li62, li64, li65, li66, li67, li97, li99, li100, li122, li236, li239, li240, li255, li254, li256, li304, li400, li703, li704, li999, li1000000, li2000000000, li3344, li3648, li9999, li10000, li32767, lm1, mjn_e]
    rw [he, if_neg (nI_ge (by omega) (by omega)), mckN _ (by omega) (by omega), nI_add, clN (by omega), clN (by omega), ht _ (by omega), ht _ (by omega), nI_add, mrm_N (by omega) (by omega) (by omega), nI_add]
    simp only [e1, e2, bzI, hm]
    by_cases q1 : (T (2 * j) + s) % 7 = 6
    · by_cases q2 : T (2 * j + 1) = 1
      · simp [q1, q2] at hp ⊢
        try rw [show 2 * j + 2 = 2 * (j + 1) by omega]
      · simp [q1, q2] at hp ⊢
    · by_cases q2 : T (2 * j + 1) = 1
      · simp [q1, q2] at hp ⊢
      · simp [q1, q2] at hp ⊢
        try rw [show 2 * j + 2 = 2 * (j + 1) by omega]
def shSet (T : Nat → Nat) (N : Nat) : Int32 := bs (fun s => alP (shQ T s) N) 7
theorem c_shifts (sh : Kp) (rd : Rd) {N : Nat} {T : Nat → Nat} (hN : N ≤ 20) (hT : TB T N) (he : rd_end_ rd = nI (2 * N)) (ht : ∀ k, k < 2 * N → rd_tape rd k = nI (T k)) : fX1_shiftsThatFit sh rd = some (shSet T N) := by
  unfold fX1_shiftsThatFit shSet bs
  refine loop_p (fun n a i => fX1_shiftsThatFit_L4 sh rd n a i) (fun s a => a ||| ob (alP (shQ T s) N) s) some 7 ?_ ?_ (by unfold mFU; omega) (nI 0)
  · intro n a
    simp only [fX1_shiftsThatFit_L4, li0, li1, li2, li3, li4, li5, li6, li7, li8, li9, li10, li11, li12, li13, li14, li15, li16, li20, li24, li26, li30, li31, li32, li40, li41, li43, li48, li50, li52, li57, li59, li60, li62, li64, li65, li66, li67, li97, li99, li100, li122, li236, li239, li240, li255, li254, li256, li304, li400, li703, li704, li999, li1000000, li2000000000, li3344, li3648, li9999, li10000, li32767, lm1]
    rw [if_pos (Int32.le_refl _)]
  · intro n a g hg
    simp only [fX1_shiftsThatFit_L4, li0, li1, li2, li3, li4, li5, li6, li7, li8, li9, li10, li11, li12, li13, li14, li15, li16, li20, li24, li26, li30, li31, li32, li40, li41, li43, li48, li50, li52, li57, li59, li60, li62, li64, li65, li66, li67, li97, li99, li100, li122, li236, li239, li240, li255, li254, li256, li304, li400, li703, li704, li999, li1000000, li2000000000, li3344, li3648, li9999, li10000, li32767, lm1]
    rw [if_neg (nI_ge hg (by omega)), c_isShift sh rd hN hT he ht (by omega), mob_sm, nI_add]
    unfold ob one
    cases alP (shQ T g) N <;> rfl
theorem x_shiftsBy (t : Tw) {N : Nat} {T : Nat → Nat} (hN : N ≤ 20) (hT : TB T N) (ht : ∀ k, k < 2 * N → tw_tape t k = nI (T k)) : fX6_shiftsBy t (nI (2 * N)) = some (shSet T N) := by
  unfold fX6_shiftsBy shSet bs
  refine loop_p (fun n a i => fX6_shiftsBy_L4 (nI (2 * N)) t n a i) (fun s a => a ||| ob (alP (shQ T s) N) s) some 7 ?_ ?_ (by unfold mFU; omega) (nI 0)
  · intro n a
    simp only [fX6_shiftsBy_L4, li0, li1, li2, li3, li4, li5, li6, li7, li8, li9, li10, li11, li12, li13, li14, li15, li16, li20, li24, li26, li30, li31, li32, li40, li41, li43, li48, li50, li52, li57, li59, li60, li62, li64, li65, li66, li67, li97, li99, li100, li122, li236, li239, li240, li255, li254, li256, li304, li400, li703, li704, li999, li1000000, li2000000000, li3344, li3648, li9999, li10000, li32767, lm1]
    rw [if_pos (Int32.le_refl _)]
  · intro n a s hs
    simp only [fX6_shiftsBy_L4, li0, li1, li2, li3, li4, li5, li6, li7, li8, li9, li10, li11, li12, li13, li14, li15, li16, li20, li24, li26, li30, li31, li32, li40, li41, li43, li48, li50, li52, li57, li59, li60, li62, li64, li65, li66, li67, li97, li99, li100, li122, li236, li239, li240, li255, li254, li256, li304, li400, li703, li704, li999, li1000000, li2000000000, li3344, li3648, li9999, li10000, li32767, lm1, mjn_e]
    rw [if_neg (nI_ge hs (by omega))]
    generalize hK : (fun x4_6 : Bool => if x4_6 = true then fX6_shiftsBy_L4 (nI (2 * N)) t n (a ||| nI 1 <<< (nI s &&& nI 31)) (nI s + nI 1) else fX6_shiftsBy_L4 (nI (2 * N)) t n (a ||| nI 0) (nI s + nI 1)) = K
    have h := loop_all (fun m j => fX6_shiftsBy_L16 (nI (2 * N)) K t (nI s) m true (nI (2 * j))) (K true) (K false) (shQ T s) N ?_ ?_ ?_ (m := mFU) (by unfold mFU; omega)
    · refine h.trans ?_
      rw [← hK, nI_add]
      unfold ob one
      cases alP (shQ T s) N <;> rfl
    · intro m
      simp only [fX6_shiftsBy_L16]
      rw [if_pos (Int32.le_refl _)]
    all_goals
      intro m j hj hp
      have h1 := hT (2 * j) (by omega)
      have h2 := hT (2 * j + 1) (by omega)
      have e1 : (nI ((T (2 * j) + s) % 7) = nI 6) ↔ (T (2 * j) + s) % 7 = 6 := nI_eq (by omega) (by omega)
      have e2 : (nI (T (2 * j + 1)) = nI 1) ↔ T (2 * j + 1) = 1 := nI_eq (by omega) (by omega)
      have hend : ∀ v, fX6_shiftsBy_L16 (nI (2 * N)) K t (nI s) (m + 1) false v = K false := by
        intro v
        simp only [fX6_shiftsBy_L16, Bool.false_eq_true, if_false, ite_self]
      have hm : ∀ K : Option Int32, mck (nI (2 * j + 1)) 400 K = K := fun K => mckN K (by omega) (by omega)
      unfold shQ at hp
      rw [fX6_shiftsBy_L16]
      simp only [li0, li1, li2, li3, li4, li5, li6, li7, li8, li9, li10, li11, li12, li13, li14, li15, li16, li20, li24, li26, li30, li31, li32, li40, li41, li43, li48, li50, li52, li57, li59, li60, li62, li64, li65, li66, li67, li97, li99, li100, li122, li236, li239, li240, li255, li254, li256, li304, li400, li703, li704, li999, li1000000, li2000000000, li3344, li3648, li9999, li10000, li32767, lm1, mjn_e, if_true]
      rw [if_neg (nI_ge (by omega) (by omega)), mckN _ (by omega) (by omega), nI_add, clN (by omega), clN (by omega), ht _ (by omega), ht _ (by omega), nI_add, mrm_N (by omega) (by omega) (by omega), nI_add]
      simp only [e1, e2, bzI, hm]
      by_cases q1 : (T (2 * j) + s) % 7 = 6
      · by_cases q2 : T (2 * j + 1) = 1
        · simp [q1, q2] at hp ⊢
          try rw [show 2 * j + 2 = 2 * (j + 1) by omega]
        · simp [q1, q2] at hp ⊢
          try exact hend _
      · by_cases q2 : T (2 * j + 1) = 1
        · simp [q1, q2] at hp ⊢
          try exact hend _
        · simp [q1, q2] at hp ⊢
          try rw [show 2 * j + 2 = 2 * (j + 1) by omega]
def wkQ (T : Nat → Nat) (s j : Nat) : Bool := decide (s ≤ T (2 * j)) == decide (T (2 * j + 1) = 1)
theorem c_isWeek (sh : Kp) (rd : Rd) {N s : Nat} {T : Nat → Nat} (hN : N ≤ 20) (hT : TB T N) (he : rd_end_ rd = nI (2 * N)) (ht : ∀ k, k < 2 * N → rd_tape rd k = nI (T k)) (hs : s < 100) : fX1_isWeek sh rd (nI s) = some (alP (wkQ T s) N) := by
  unfold fX1_isWeek
  simp only [li0, li1, li2, li3, li4, li5, li6, li7, li8, li9, li10, li11, li12, li13, li14, li15, li16, li20, li24, li26, li30, li31, li32, li40, li41, li43, li48, li50, li52, li57, li59, li60, li62, li64, li65, li66, li67, li97, li99, li100, li122, li236, li239, li240, li255, li254, li256, li304, li400, li703, li704, li999, li1000000, li2000000000, li3344, li3648, li9999, li10000, li32767, lm1]
  have h := loop_all (fun m j => fX1_isWeek_L7 rd (nI s) m (nI (2 * j))) (some true) (some false) (wkQ T s) N ?_ ?_ ?_ (m := mFU) (by unfold mFU; omega)
  · refine h.trans ?_
    cases alP (wkQ T s) N <;> rfl
  · intro m
    simp only [fX1_isWeek_L7]
    rw [he, if_pos (Int32.le_refl _)]
  all_goals
    intro m j hj hp
    have h1 := hT (2 * j) (by omega)
    have h2 := hT (2 * j + 1) (by omega)
    have e1 : (nI (T (2 * j)) < nI s) ↔ T (2 * j) < s := nI_ltI (by omega) (by omega)
    have e2 : (nI (T (2 * j + 1)) = nI 1) ↔ T (2 * j + 1) = 1 := nI_eq (by omega) (by omega)
    have hm : ∀ K : Option Bool, mck (nI (2 * j + 1)) 400 K = K := fun K => mckN K (by omega) (by omega)
    unfold wkQ at hp
    simp only [fX1_isWeek_L7, li0, li1, li2, li3, li4, li5, li6, li7, li8, li9, li10, li11, li12, li13, li14, li15, li16, li20, li24, li26, li30, li31, li32, li40, li41, li43, li48, li50, li52, li57, li59, li60, li62, li64, li65, li66, li67, li97, li99, li100, li122, li236, li239, li240, li255, li254, li256, li304, li400, li703, li704, li999, li1000000, li2000000000, li3344, li3648, li9999, li10000, li32767, lm1, mjn_e]
    rw [he, if_neg (nI_ge (by omega) (by omega)), mckN _ (by omega) (by omega), nI_add, clN (by omega), clN (by omega), ht _ (by omega), ht _ (by omega), nI_add]
    simp only [e1, e2, bzI, hm]
    by_cases q1 : T (2 * j) < s
    · have q3 : ¬ s ≤ T (2 * j) := by omega
      by_cases q2 : T (2 * j + 1) = 1
      · simp [q1, q2, q3] at hp ⊢
      · simp [q1, q2, q3] at hp ⊢
        try rw [show 2 * j + 2 = 2 * (j + 1) by omega]
    · have q3 : s ≤ T (2 * j) := by omega
      by_cases q2 : T (2 * j + 1) = 1
      · simp [q1, q2, q3] at hp ⊢
        try rw [show 2 * j + 2 = 2 * (j + 1) by omega]
      · simp [q1, q2, q3] at hp ⊢
