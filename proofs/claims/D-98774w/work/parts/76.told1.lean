/-! PURE LAWS: what is told -/
def alP (p : Nat → Bool) : Nat → Bool
  | 0 => true
  | n + 1 => alP p n && p n
theorem alP_f {p : Nat → Bool} {j : Nat} (hp : p j = false) : ∀ {N : Nat}, j < N → alP p N = false
  | 0, h => absurd h (by omega)
  | N + 1, h => by
    show (alP p N && p N) = false
    by_cases q : j = N
    · rw [← q, hp, Bool.and_false]
    · rw [alP_f hp (show j < N by omega), Bool.false_and]
theorem alP_t {p : Nat → Bool} {N : Nat} (h : alP p N = true) {j : Nat} (hj : j < N) : p j = true := by
  cases e : p j
  · rw [alP_f e hj] at h; exact nomatch h
  · rfl
theorem alP_congr {p q : Nat → Bool} : ∀ {N : Nat}, (∀ j, j < N → p j = q j) → alP p N = alP q N
  | 0, _ => rfl
  | N + 1, h => by
    show (alP p N && p N) = (alP q N && q N)
    rw [alP_congr fun j hj => h j (by omega), h N (by omega)]
theorem alP_pair (p : Nat → Bool) : ∀ N : Nat, alP p (2 * N) = alP (fun j => p (2 * j) && p (2 * j + 1)) N
  | 0 => rfl
  | N + 1 => by
    show ((alP p (2 * N) && p (2 * N)) && p (2 * N + 1)) = (alP (fun j => p (2 * j) && p (2 * j + 1)) N && (p (2 * N) && p (2 * N + 1)))
    rw [alP_pair p N, Bool.and_assoc]
theorem loop_all {γ : Type} (L : Nat → Nat → γ) (KT KF : γ) (p : Nat → Bool) (N : Nat) (h0 : ∀ m, L (m + 1) N = KT) (h1 : ∀ m j, j < N → p j = true → L (m + 1) j = L m (j + 1)) (h2 : ∀ m j, j < N → p j = false → L (m + 2) j = KF) {m : Nat} (hm : N + 1 < m) : L m 0 = if alP p N = true then KT else KF := by
  have key : ∀ d j m, j + d = N → alP p j = true → d + 1 < m → L m j = if alP p N = true then KT else KF := by
    intro d
    induction d with
    | zero =>
      intro j m hj ha hm
      obtain rfl : j = N := by omega
      obtain ⟨m, rfl⟩ : ∃ q, m = q + 1 := ⟨m - 1, by omega⟩
      rw [if_pos ha]
      exact h0 m
    | succ d ih =>
      intro j m hj ha hm
      obtain ⟨m, rfl⟩ : ∃ q, m = q + 2 := ⟨m - 2, by omega⟩
      cases hp : p j
      · rw [if_neg (by rw [alP_f hp (show j < N by omega)]; decide)]
        exact h2 m j (by omega) hp
      · rw [h1 (m + 1) j (by omega) hp]
        exact ih (j + 1) (m + 1) (by omega) (by show (alP p j && p j) = true; rw [ha, hp]; rfl) (by omega)
  exact key N 0 m (by omega) rfl hm
/-- what is told can stand: n bytes T, numbers below b -/
def tOK (n b : Nat) (T : Nat → Nat) : Bool := (decide (n % 2 = 0) && decide (n ≤ 40)) && alP (fun k => decide (T k < if k % 2 = 0 then b else 2)) n
def tP (b : Nat) (T : Nat → Nat) (j : Nat) : Bool := decide (T (2 * j) < b) && decide (T (2 * j + 1) < 2)
theorem tOK_pair {n b : Nat} {T : Nat → Nat} : tOK n b T = ((decide (n % 2 = 0) && decide (n ≤ 40)) && alP (tP b T) (n / 2)) := by
  unfold tOK
  by_cases h : n % 2 = 0
  · have e : n = 2 * (n / 2) := by omega
    rw [show alP (fun k => decide (T k < if k % 2 = 0 then b else 2)) n = alP (tP b T) (n / 2) from by
      conv => lhs; rw [e]
      rw [alP_pair]
      refine alP_congr fun j _ => ?_
      unfold tP
      rw [if_pos (by omega), if_neg (by omega)]]
  · rw [decide_eq_false h, Bool.false_and, Bool.false_and, Bool.false_and]
def rd2 (rd : Rd) : Rd := rd_s_deep (rd_s_at_ (rd_s_length (rd_s_end_ rd (rd_length rd)) (nI 0)) (nI 0)) (nI 0)
theorem c_begins (rd : Rd) : fX3_begins rd = some (rd2 rd) := rfl
theorem x_heard (t : Tw) {n b : Nat} {T : Nat → Nat} (hn : tw_taped t = nI n) (hn4 : n ≤ 400) (hT : ∀ k, k < n → tw_tape t k = nI (T k) ∧ T k ≤ 255) (hb : b ≤ 100) : fX6_heard t (nI b) = some (if tOK n b T = true then nI n else nM, tw_s_taped t (nI 0)) := by
  unfold fX6_heard
  simp only [li0, li1, li2, li3, li4, li5, li6, li7, li8, li9, li10, li11, li12, li13, li14, li15, li16, li20, li24, li26, li30, li31, li32, li40, li41, li43, li48, li50, li52, li57, li59, li60, li62, li64, li65, li66, li67, li97, li99, li100, li122, li236, li239, li240, li255, li254, li256, li304, li400, li703, li704, li999, li1000000, li2000000000, li3344, li3648, li9999, li10000, li32767, lm1, mlt_e, mjn_e]
  rw [hn, mrm_N (by omega) (by omega) (by omega)]
  have hfin : ∀ m, fX6_heard_L31 t (fun x3_7 => if x3_7 = true then some (nI n, tw_s_taped t (nI 0)) else some (nM, tw_s_taped t (nI 0))) (tw_s_taped t (nI 0)) (nI b) (m + 1) false (nI 0) = some (nM, tw_s_taped t (nI 0)) := by
    intro m
    simp only [fX6_heard_L31, Bool.false_eq_true, if_false, ite_self]
  obtain ⟨mf, hmf⟩ := mFU_e
  by_cases h2 : n % 2 = 0
  · rw [h2, if_pos rfl]
    by_cases h4 : n ≤ 40
    · rw [if_neg (fun q => by have := (nI_ltI (by omega) (by omega)).mp q; omega)]
      have h := loop_all (fun m j => fX6_heard_L31 t (fun x3_7 => if x3_7 = true then some (nI n, tw_s_taped t (nI 0)) else some (nM, tw_s_taped t (nI 0))) (tw_s_taped t (nI 0)) (nI b) m true (nI j)) (some (nI n, tw_s_taped t (nI 0))) (some (nM, tw_s_taped t (nI 0))) (fun k => decide (T k < if k % 2 = 0 then b else 2)) n ?_ ?_ ?_ (m := mFU) (by unfold mFU; omega)
      · refine h.trans ?_
        unfold tOK
        rw [decide_eq_true h2, decide_eq_true h4]
        simp only [Bool.and_self, Bool.true_and]
        split <;> rfl
      · intro m
        simp only [fX6_heard_L31]
        rw [hn, if_pos (Int32.le_refl _), if_pos trivial]
      · intro m j hj hp
        have hp := of_decide_eq_true hp
        obtain ⟨g1, g2⟩ := hT j hj
        simp only [fX6_heard_L31, li0, li1, li2, li3, li4, li5, li6, li7, li8, li9, li10, li11, li12, li13, li14, li15, li16, li20, li24, li26, li30, li31, li32, li40, li41, li43, li48, li50, li52, li57, li59, li60, li62, li64, li65, li66, li67, li97, li99, li100, li122, li236, li239, li240, li255, li254, li256, li304, li400, li703, li704, li999, li1000000, li2000000000, li3344, li3648, li9999, li10000, li32767, lm1, mjn_e, if_true]
        rw [hn, if_neg (nI_ge hj (by omega)), mckN _ (by omega) (by omega), mrm_N (by omega) (by omega) (by omega), nI_add, clN (by omega)]
        rw [show tw_tape (tw_s_taped t (nI 0)) j = nI (T j) from g1]
        by_cases q : j % 2 = 0
        · rw [if_pos q] at hp
          rw [if_pos (congrArg nI q), if_neg (fun z => by have := (nI_leI (by omega) (by omega)).mp z; omega)]
        · rw [if_neg q] at hp
          rw [if_neg (fun z => q ((nI_eq (by omega) (by omega)).mp z)), if_neg (fun z => by have := (nI_leI (by omega) (by omega)).mp z; omega)]
      · intro m j hj hp
        have hp := of_decide_eq_false hp
        obtain ⟨g1, g2⟩ := hT j hj
        have hend : ∀ v, fX6_heard_L31 t (fun x3_7 => if x3_7 = true then some (nI n, tw_s_taped t (nI 0)) else some (nM, tw_s_taped t (nI 0))) (tw_s_taped t (nI 0)) (nI b) (m + 1) false v = some (nM, tw_s_taped t (nI 0)) := by
          intro v
          simp only [fX6_heard_L31, Bool.false_eq_true, if_false, ite_self]
        show fX6_heard_L31 t _ (tw_s_taped t (nI 0)) (nI b) (m + 1 + 1) true (nI j) = _
        rw [fX6_heard_L31]
        simp only [li0, li1, li2, li3, li4, li5, li6, li7, li8, li9, li10, li11, li12, li13, li14, li15, li16, li20, li24, li26, li30, li31, li32, li40, li41, li43, li48, li50, li52, li57, li59, li60, li62, li64, li65, li66, li67, li97, li99, li100, li122, li236, li239, li240, li255, li254, li256, li304, li400, li703, li704, li999, li1000000, li2000000000, li3344, li3648, li9999, li10000, li32767, lm1, mjn_e, if_true]
        rw [hn, if_neg (nI_ge hj (by omega)), mckN _ (by omega) (by omega), mrm_N (by omega) (by omega) (by omega), clN (by omega)]
        rw [show tw_tape (tw_s_taped t (nI 0)) j = nI (T j) from g1]
        by_cases q : j % 2 = 0
        · rw [if_pos q] at hp
          rw [if_pos (congrArg nI q), if_pos ((nI_leI (by omega) (by omega)).mpr (by omega))]
          exact hend _
        · rw [if_neg q] at hp
          rw [if_neg (fun z => q ((nI_eq (by omega) (by omega)).mp z)), if_pos ((nI_leI (by omega) (by omega)).mpr (by omega))]
          exact hend _
    · rw [if_pos ((nI_ltI (by omega) (by omega)).mpr (by omega)), hmf, hfin]
      unfold tOK
      rw [decide_eq_false h4, Bool.and_false, Bool.false_and]
      rfl
  · rw [if_neg (fun z => h2 ((nI_eq (by omega) (by omega)).mp z)), hmf, hfin]
    unfold tOK
    rw [decide_eq_false h2, Bool.false_and, Bool.false_and]
    rfl
theorem rin_sb2 : ∀ y, y < 256 → rin (sb (nI y)) (nI 0) (nI 1) = decide (y < 2) := by decide +kernel
theorem rin_sb7 : ∀ y, y < 256 → rin (sb (nI y)) (nI 0) (nI 7 - nI 1) = decide (y < 7) := by decide +kernel
theorem rin_sb52 : ∀ y, y < 256 → rin (sb (nI y)) (nI 0) (nI 52 - nI 1) = decide (y < 52) := by decide +kernel
theorem c_tells (sh : Kp) (rd : Rd) {n b : Nat} {T : Nat → Nat} (hn : rd_length rd = nI n) (hn4 : n ≤ 400) (hT : ∀ k, k < n → rd_tape rd k = sb (nI (T k)) ∧ T k ≤ 255) (hb : ∀ y, y < 256 → rin (sb (nI y)) (nI 0) (nI b - nI 1) = decide (y < b)) : fX1_tells sh rd (nI b) = if tOK n b T = true then some (.inr (rd2 rd)) else some (.inl (eA, rd2 rd)) := by
  unfold fX1_tells
  rw [c_begins, mob_sm, tOK_pair]
  simp only [li0, li1, li2, li3, li4, li5, li6, li7, li8, li9, li10, li11, li12, li13, li14, li15, li16, li20, li24, li26, li30, li31, li32, li40, li41, li43, li48, li50, li52, li57, li59, li60, li62, li64, li65, li66, li67, li97, li99, li100, li122, li236, li239, li240, li255, li254, li256, li304, li400, li703, li704, li999, li1000000, li2000000000, li3344, li3648, li9999, li10000, li32767, lm1, mjn_e]
  have he : rd_end_ (rd2 rd) = nI n := hn
  have ht : ∀ k, rd_tape (rd2 rd) k = rd_tape rd k := fun _ => rfl
  rw [he, mrm_N (by omega) (by omega) (by omega)]
  by_cases h2 : n % 2 = 0
  · rw [h2, if_pos rfl]
    by_cases h4 : n ≤ 40
    · rw [if_neg (fun q => by have := (nI_ltI (by omega) (by omega)).mp q; omega), c_demand]
      simp only [Bool.false_eq_true, if_false, if_true, mox_r, mox_l, mob_sm, mo2_sm, bz_f, bz_t, twg_thrown_thrown, twg_thrown_m, t_le00, t_lt00, t_eq00, t_le10, t_lt10, t_eq10, t_le20, t_lt20, t_eq20, t_le30, t_lt30, t_eq30, t_lt01, t_lt02, t_lt03, decide_eq_true h2, decide_eq_true h4, Bool.and_self, Bool.true_and]
      have h := loop_all (fun m j => fX1_tells_L37 (rd2 rd) (nI b) m (nI (2 * j))) (some (.inr (rd2 rd))) (some (.inl (eA, rd2 rd))) (tP b T) (n / 2) ?_ ?_ ?_ (m := mFU) (by unfold mFU; omega)
      · exact h
      · intro m
        simp only [fX1_tells_L37]
        rw [he, if_pos (by rw [show 2 * (n / 2) = n by omega]; exact Int32.le_refl _)]
      · intro m j hj hp
        unfold tP at hp
        rw [Bool.and_eq_true] at hp
        simp only [fX1_tells_L37, li0, li1, li2, li3, li4, li5, li6, li7, li8, li9, li10, li11, li12, li13, li14, li15, li16, li20, li24, li26, li30, li31, li32, li40, li41, li43, li48, li50, li52, li57, li59, li60, li62, li64, li65, li66, li67, li97, li99, li100, li122, li236, li239, li240, li255, li254, li256, li304, li400, li703, li704, li999, li1000000, li2000000000, li3344, li3648, li9999, li10000, li32767, lm1, mjn_e]
        rw [he, if_neg (nI_ge (by omega) (by omega)), mckN _ (by omega) (by omega), c_in', mob_sm, clN (by omega), ht, (hT (2 * j) (by omega)).1, hb _ (by have := (hT (2 * j) (by omega)).2; omega), hp.1, if_pos rfl, nI_add, mckN _ (by omega) (by omega), c_in', mob_sm, clN (by omega), ht, (hT (2 * j + 1) (by omega)).1, rin_sb2 _ (by have := (hT (2 * j + 1) (by omega)).2; omega), hp.2, if_pos rfl, c_demand]
        simp only [Bool.false_eq_true, if_false, if_true, mox_r, mox_l, mob_sm, mo2_sm, bz_f, bz_t, twg_thrown_thrown, twg_thrown_m, t_le00, t_lt00, t_eq00, t_le10, t_lt10, t_eq10, t_le20, t_lt20, t_eq20, t_le30, t_lt30, t_eq30, t_lt01, t_lt02, t_lt03]
        rw [nI_add, show 2 * j + 2 = 2 * (j + 1) by omega]
      · intro m j hj hp
        unfold tP at hp
        simp only [fX1_tells_L37, li0, li1, li2, li3, li4, li5, li6, li7, li8, li9, li10, li11, li12, li13, li14, li15, li16, li20, li24, li26, li30, li31, li32, li40, li41, li43, li48, li50, li52, li57, li59, li60, li62, li64, li65, li66, li67, li97, li99, li100, li122, li236, li239, li240, li255, li254, li256, li304, li400, li703, li704, li999, li1000000, li2000000000, li3344, li3648, li9999, li10000, li32767, lm1, mjn_e]
        rw [he, if_neg (nI_ge (by omega) (by omega)), mckN _ (by omega) (by omega), c_in', mob_sm, clN (by omega), ht, (hT (2 * j) (by omega)).1, hb _ (by have := (hT (2 * j) (by omega)).2; omega)]
        cases h1 : decide (T (2 * j) < b)
        · rw [if_neg (by decide), c_demand]
          simp only [Bool.false_eq_true, if_false, if_true, mox_r, mox_l, mob_sm, mo2_sm, bz_f, bz_t, twg_thrown_thrown, twg_thrown_m, t_le00, t_lt00, t_eq00, t_le10, t_lt10, t_eq10, t_le20, t_lt20, t_eq20, t_le30, t_lt30, t_eq30, t_lt01, t_lt02, t_lt03]
        · rw [h1, Bool.true_and] at hp
          rw [if_pos rfl, nI_add, mckN _ (by omega) (by omega), c_in', mob_sm, clN (by omega), ht, (hT (2 * j + 1) (by omega)).1, rin_sb2 _ (by have := (hT (2 * j + 1) (by omega)).2; omega), hp, if_neg (by decide), c_demand]
          simp only [Bool.false_eq_true, if_false, if_true, mox_r, mox_l, mob_sm, mo2_sm, bz_f, bz_t, twg_thrown_thrown, twg_thrown_m, t_le00, t_lt00, t_eq00, t_le10, t_lt10, t_eq10, t_le20, t_lt20, t_eq20, t_le30, t_lt30, t_eq30, t_lt01, t_lt02, t_lt03]
    · rw [if_pos ((nI_ltI (by omega) (by omega)).mpr (by omega)), c_demand]
      simp only [Bool.false_eq_true, if_false, if_true, mox_r, mox_l, mob_sm, mo2_sm, bz_f, bz_t, twg_thrown_thrown, twg_thrown_m, t_le00, t_lt00, t_eq00, t_le10, t_lt10, t_eq10, t_le20, t_lt20, t_eq20, t_le30, t_lt30, t_eq30, t_lt01, t_lt02, t_lt03, decide_eq_false h4, Bool.and_false, Bool.false_and]
  · rw [if_neg (fun z => h2 ((nI_eq (by omega) (by omega)).mp z)), c_demand]
    simp only [Bool.false_eq_true, if_false, if_true, mox_r, mox_l, mob_sm, mo2_sm, bz_f, bz_t, twg_thrown_thrown, twg_thrown_m, t_le00, t_lt00, t_eq00, t_le10, t_lt10, t_eq10, t_le20, t_lt20, t_eq20, t_le30, t_lt30, t_eq30, t_lt01, t_lt02, t_lt03, decide_eq_false h2, Bool.false_and]
/-! the shifts, the weeks that fit -/
theorem sb_N : ∀ y, y < 128 → sb (nI y) = nI y := by decide +kernel
def shP (T : Nat → Nat) (s j : Nat) : Bool := decide (T (2 * j) % 1 = 0) && (decide ((T (2 * j) + s) % 7 = 6) == decide (T (2 * j + 1) = 1))
def wkP (T : Nat → Nat) (s j : Nat) : Bool := (decide (s ≤ T (2 * j)) == decide (T (2 * j + 1) = 1))
theorem bz_beq (a b : Bool) : (bz a = bz b) ↔ (a == b) = true := by cases a <;> cases b <;> decide
