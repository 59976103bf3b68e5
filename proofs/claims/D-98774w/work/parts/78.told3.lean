/-! PURE LAWS: weeks counted; shifts, ask, bored, look -/
def wc (W : Nat → Bool) : Nat → Nat
  | 0 => 0
  | k + 1 => wc W k + (if W k = true then 1 else 0)
theorem wc_le (W : Nat → Bool) : ∀ k, wc W k ≤ k
  | 0 => Nat.le_refl 0
  | k + 1 => by
    have := wc_le W k
    show wc W k + (if W k = true then 1 else 0) ≤ k + 1
    split <;> omega
def wF (W : Nat → Bool) (F : Nat → Bool) (k : Nat) : Nat → Bool := fun j => if j < k then W j else F j
theorem wF_s (W F : Nat → Bool) (k : Nat) (x y : Bool) (hx : y = W k) : updb (updb (wF W F k) k x) k y = wF W F (k + 1) := by
  funext j
  unfold updb wF
  by_cases q : j = k
  · subst q
    rw [if_pos rfl, if_pos (by omega), hx]
  · rw [if_neg q, if_neg q]
    by_cases z : j < k
    · rw [if_pos z, if_pos (by omega)]
    · rw [if_neg z, if_neg (by omega)]
theorem updb2 (F : Nat → Bool) (k : Nat) (x y : Bool) : updb (updb F k x) k y = updb F k y := by
  funext j
  unfold updb
  split <;> rfl
theorem x_weeksBy (t : Tw) {N : Nat} {T : Nat → Nat} (hN : N ≤ 20) (hT : TB T N) (ht : ∀ k, k < 2 * N → tw_tape t k = nI (T k)) : fX6_weeksBy t (nI (2 * N)) = some (nI (wc (fun s => alP (wkQ T s) N) 52), tw_s_fits t (wF (fun s => alP (wkQ T s) N) (tw_fits t) 52)) := by
  unfold fX6_weeksBy
  simp only [li0, li1, li2, li3, li4, li5, li6, li7, li8, li9, li10, li11, li12, li13, li14, li15, li16, li20, li24, li26, li30, li31, li32, li40, li41, li43, li48, li50, li52, li57, li59, li60, li62, li64, li65, li66, li67, li97, li99, li100, li122, li236, li239, li240, li255, li254, li256, li304, li400, li703, li704, li999, li1000000, li2000000000, li3344, li3648, li9999, li10000, li32767, lm1]
  have h := loop_c (fun m (x : Int32 × Tw) i => fX6_weeksBy_L4 (nI (2 * N)) m x.1 i x.2) (fun k => (nI (wc (fun s => alP (wkQ T s) N) k), tw_s_fits t (wF (fun s => alP (wkQ T s) N) (tw_fits t) k))) (fun x => some x) 52 ?_ ?_ (n := mFU) (by unfold mFU; omega)
  · have e : tw_s_fits t (wF (fun s => alP (wkQ T s) N) (tw_fits t) 0) = t := rfl
    simp only [e] at h
    exact h
  · intro m
    simp only [fX6_weeksBy_L4, li0, li1, li2, li3, li4, li5, li6, li7, li8, li9, li10, li11, li12, li13, li14, li15, li16, li20, li24, li26, li30, li31, li32, li40, li41, li43, li48, li50, li52, li57, li59, li60, li62, li64, li65, li66, li67, li97, li99, li100, li122, li236, li239, li240, li255, li254, li256, li304, li400, li703, li704, li999, li1000000, li2000000000, li3344, li3648, li9999, li10000, li32767, lm1]
    rw [if_pos (Int32.le_refl _)]
  · intro n s hs
    simp only [fX6_weeksBy_L4, li0, li1, li2, li3, li4, li5, li6, li7, li8, li9, li10, li11, li12, li13, li14, li15, li16, li20, li24, li26, li30, li31, li32, li40, li41, li43, li48, li50, li52, li57, li59, li60, li62, li64, li65, li66, li67, li97, li99, li100, li122, li236, li239, li240, li255, li254, li256, li304, li400, li703, li704, li999, li1000000, li2000000000, li3344, li3648, li9999, li10000, li32767, lm1, mjn_e]
    rw [if_neg (nI_ge hs (by omega)), mckN _ hs (by omega), mlt_e, clN (by omega)]
    have hms : ∀ {α : Type} (K : Option α), mck (nI s) 52 K = K := fun K => mckN K hs (by omega)
    simp only [hms]
    generalize hK : (fun t_9 : Tw => if tw_fits t_9 s = true then fX6_weeksBy_L4 (nI (2 * N)) n (nI (wc (fun s => alP (wkQ T s) N) s) + nI 1) (nI s + nI 1) t_9 else fX6_weeksBy_L4 (nI (2 * N)) n (nI (wc (fun s => alP (wkQ T s) N) s) + nI 0) (nI s + nI 1) t_9) = K
    generalize hF : wF (fun s => alP (wkQ T s) N) (tw_fits t) s = F
    show fX6_weeksBy_L20 (nI (2 * N)) K (nI s) mFU (nI 0) (tw_s_fits t (updb F s true)) = _
    have hfin : K (tw_s_fits t (updb F s (alP (wkQ T s) N))) = fX6_weeksBy_L4 (nI (2 * N)) n (nI (wc (fun s => alP (wkQ T s) N) (s + 1))) (nI (s + 1)) (tw_s_fits t (wF (fun s => alP (wkQ T s) N) (tw_fits t) (s + 1))) := by
      rw [← wF_s (fun s => alP (wkQ T s) N) (tw_fits t) s false (alP (wkQ T s) N) rfl, updb2, hF, ← hK]
      show (if updb F s (alP (wkQ T s) N) s = true then _ else _) = _
      rw [updb_s, nI_add, nI_add, nI_add]
      show _ = fX6_weeksBy_L4 (nI (2 * N)) n (nI (wc (fun s => alP (wkQ T s) N) s + (if alP (wkQ T s) N = true then 1 else 0))) (nI (s + 1)) _
      cases alP (wkQ T s) N <;> rfl
    have h := loop_all (fun m j => fX6_weeksBy_L20 (nI (2 * N)) K (nI s) m (nI (2 * j)) (tw_s_fits t (updb F s true))) (K (tw_s_fits t (updb F s true))) (K (tw_s_fits t (updb F s false))) (wkQ T s) N ?_ ?_ ?_ (m := mFU) (by unfold mFU; omega)
    · refine h.trans ?_
      rw [← hfin]
      cases alP (wkQ T s) N <;> rfl
    · intro m
      simp only [fX6_weeksBy_L20]
      rw [if_pos (Int32.le_refl _)]
    all_goals
      intro m j hj hp
      have h1 := hT (2 * j) (by omega)
      have h2 := hT (2 * j + 1) (by omega)
      have e1 : (nI (T (2 * j)) < nI s) ↔ T (2 * j) < s := nI_ltI (by omega) (by omega)
      have e2 : (nI (T (2 * j + 1)) = nI 1) ↔ T (2 * j + 1) = 1 := nI_eq (by omega) (by omega)
      have hend : ∀ v, fX6_weeksBy_L20 (nI (2 * N)) K (nI s) (m + 1) v (tw_s_fits t (updb F s false)) = K (tw_s_fits t (updb F s false)) := by
        intro v
        simp only [fX6_weeksBy_L20, hms]
        have e : tw_fits (tw_s_fits t (updb F s false)) (Int32.toNatClampNeg (nI s)) = false := by
          rw [clN (by omega)]
          exact updb_s
        rw [e]
        simp only [Bool.false_eq_true, if_false, ite_self]
      have hm : ∀ K : Option (Int32 × Tw), mck (nI (2 * j + 1)) 400 K = K := fun K => mckN K (by omega) (by omega)
      have e3 : tw_fits (tw_s_fits t (updb F s true)) s = true := updb_s
      have e4 : ∀ z, tw_tape (tw_s_fits t z) = tw_tape t := fun _ => rfl
      have e5 : ∀ z, tw_s_fits (tw_s_fits t (updb F s true)) (updb (tw_fits (tw_s_fits t (updb F s true))) s z) = tw_s_fits t (updb F s z) := fun z => by
        show tw_s_fits t (updb (updb F s true) s z) = _
        rw [updb2]
      unfold wkQ at hp
      rw [fX6_weeksBy_L20]
      simp only [li0, li1, li2, li3, li4, li5, li6, li7, li8, li9, li10, li11, li12, li13, li14, li15, li16, li20, li24, li26, li30, li31, li32, li40, li41, li43, li48, li50, li52, li57, li59, li60, li62, li64, li65, li66, li67, li97, li99, li100, li122, li236, li239, li240, li255, li254, li256, li304, li400, li703, li704, li999, li1000000, li2000000000, li3344, li3648, li9999, li10000, li32767, lm1, mjn_e, hms, mlt_e]
      rw [if_neg (nI_ge (by omega) (by omega)), clN (show s < 2 ^ 31 by omega), e3, if_pos rfl, mckN _ (by omega) (by omega), nI_add, clN (by omega), clN (by omega), e4, ht _ (by omega), ht _ (by omega), nI_add]
      simp only [e1, e2, bzI, hm, e5]
      by_cases q1 : T (2 * j) < s
      · have q3 : ¬ s ≤ T (2 * j) := by omega
        by_cases q2 : T (2 * j + 1) = 1
        · simp [q1, q2, q3] at hp ⊢
          try exact hend _
        · simp [q1, q2, q3] at hp ⊢
          try rw [show 2 * j + 2 = 2 * (j + 1) by omega]
      · have q3 : s ≤ T (2 * j) := by omega
        by_cases q2 : T (2 * j + 1) = 1
        · simp [q1, q2, q3] at hp ⊢
          try rw [show 2 * j + 2 = 2 * (j + 1) by omega]
        · simp [q1, q2, q3] at hp ⊢
          try exact hend _
