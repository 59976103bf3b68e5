/-! PURE LAWS: shifts, ask, bored, look -/
section TOLD
variable {Sm : zSem} {us : List Wd} {sh : Kp} {w im : Wd} {rd : Rd} {t : Tw}
def TO {ρ : Type} (cd : String → Int32) (A : Option ((String × Rd) ⊕ (ρ × Rd))) (B : Option (ρ × Tw)) (G : Rd → Tw → Prop) : Prop :=
  (∃ (r : ρ) (rd' : Rd) (t6 : Tw), A = some (.inr (r, rd')) ∧ B = some (r, t6) ∧ tw_thrown t6 = nI 0 ∧ G rd' t6) ∨ ∃ (E : String) (rd' : Rd) (r : ρ) (t6 : Tw), A = some (.inl (E, rd')) ∧ ¬ cd E = nI 0 ∧ B = some (r, t6) ∧ tw_thrown t6 = cd E ∧ G rd' t6
theorem told_pre (h : Cp Sm us sh w im rd t) : ∃ (n : Nat) (T : Nat → Nat), tw_taped t = nI n ∧ rd_length rd = nI n ∧ n ≤ 400 ∧ (∀ k, k < n → tw_tape t k = nI (T k) ∧ T k ≤ 255) ∧ (∀ k, k < n → rd_tape rd k = sb (nI (T k)) ∧ T k ≤ 255) := by
  obtain ⟨-, ⟨hT0, n, hT1, hn, hT2⟩, -⟩ := h
  refine ⟨n, fun k => (tw_tape t k).toNatClampNeg, hT1, hT0.trans hT1, hn, fun k hk => (hT2 k hk).1.cl (by omega), fun k hk => ?_⟩
  have h1 := (hT2 k hk).1.cl (by omega)
  exact ⟨by rw [← h1.1]; exact (hT2 k hk).2, h1.2⟩
theorem told_ok {n b : Nat} {T : Nat → Nat} (h : tOK n b T = true) (hb : b ≤ 100) : ∃ N, n = 2 * N ∧ N ≤ 20 ∧ TB T N := by
  unfold tOK at h
  rw [Bool.and_eq_true, Bool.and_eq_true, decide_eq_true_iff, decide_eq_true_iff] at h
  obtain ⟨⟨h1, h2⟩, h3⟩ := h
  refine ⟨n / 2, by omega, by omega, fun k hk => ?_⟩
  have h4 := of_decide_eq_true (alP_t h3 (show k < n by omega))
  split at h4 <;> omega
theorem told_cp (h : Cp Sm us sh w im rd t) (v : Int32) : Cp Sm us sh w im (rd2 rd) (tw_s_thrown (tw_s_taped t (nI 0)) v) := ⟨h.1, ⟨rfl, 0, rfl, by omega, fun k hk => absurd hk (Nat.not_lt_zero k)⟩, h.2.2.1, h.2.2.2.1, h.2.2.2.2⟩
theorem Cp.fits (h : Cp Sm us sh w im rd t) (F : Nat → Bool) : Cp Sm us sh w im rd (tw_s_fits t F) := ⟨h.1, h.2.1, h.2.2.1, h.2.2.2.1, h.2.2.2.2⟩
theorem told_no {ρ : Type} (h : Cp Sm us sh w im rd t) (r : ρ) : TO cdA (some (.inl (eA, rd2 rd))) (some (r, tw_s_thrown (tw_s_taped t (nI 0)) (nI 1))) (Cp Sm us sh w im) := Or.inr ⟨eA, _, r, _, rfl, by rw [cdA_A]; decide +kernel, rfl, cdA_A.symm, told_cp h (nI 1)⟩
theorem told_b {N : Nat} {T : Nat → Nat} (hT : TB T N) (hr : ∀ k, k < 2 * N → rd_tape rd k = sb (nI (T k)) ∧ T k ≤ 255) : ∀ k, k < 2 * N → rd_tape (rd2 rd) k = nI (T k) := fun k hk => (hr k hk).1.trans (sb_N _ (by have := hT k hk; omega))
theorem nIM {n : Nat} (hn : n < 2 ^ 31) : ¬ nI n = nM := nM_ne hn
theorem a_shifts (h : Cp Sm us sh w im rd t) : TO cdA (fX1_shifts sh rd) (fX6_shifts t) (Cp Sm us sh w im) := by
  obtain ⟨n, T, h1, h2, h3, h4, h5⟩ := told_pre h
  unfold fX1_shifts fX6_shifts
  simp only [li0, li1, li2, li3, li4, li5, li6, li7, li8, li9, li10, li11, li12, li13, li14, li15, li16, li20, li24, li26, li30, li31, li32, li40, li41, li43, li48, li50, li52, li57, li59, li60, li62, li64, li65, li66, li67, li97, li99, li100, li122, li236, li239, li240, li255, li254, li256, li304, li400, li703, li704, li999, li1000000, li2000000000, li3344, li3648, li9999, li10000, li32767, lm1, mjn_e, mlt_e]
  rw [c_tells sh rd h2 h3 h5 rin_sb7, x_heard t h1 h3 h4 (by omega), mo2_sm]
  cases hk : tOK n 7 T
  · simp only [Bool.false_eq_true, if_false, if_true, mox_r, mox_l, mob_sm, mo2_sm, bz_f, bz_t, twg_thrown_thrown, twg_thrown_m, t_le00, t_lt00, t_eq00, t_le10, t_lt10, t_eq10, t_le20, t_lt20, t_eq20, t_le30, t_lt30, t_eq30, t_lt01, t_lt02, t_lt03]
    exact told_no h _
  · obtain ⟨N, rfl, hN, hTB⟩ := told_ok hk (by omega)
    simp only [Bool.false_eq_true, if_false, if_true, mox_r, mox_l, mob_sm, mo2_sm, bz_f, bz_t, twg_thrown_thrown, twg_thrown_m, t_le00, t_lt00, t_eq00, t_le10, t_lt10, t_eq10, t_le20, t_lt20, t_eq20, t_le30, t_lt30, t_eq30, t_lt01, t_lt02, t_lt03]
    rw [if_neg (nIM (by omega)), c_shifts sh (rd2 rd) hN hTB h2 (told_b hTB h5), mob_sm, x_shiftsBy (tw_s_thrown (tw_s_taped t (nI 0)) (nI 0)) hN hTB (fun k hk => (h4 k hk).1), mob_sm]
    exact Or.inl ⟨_, _, _, rfl, rfl, rfl, told_cp h (nI 0)⟩
theorem fo_first {α : Type} {F : Nat → α → α} {x y : α} (h : F 0 x = F 0 y) : ∀ k, fo F (k + 1) x = fo F (k + 1) y
  | 0 => h
  | k + 1 => by
    show F (k + 1) (fo F (k + 1) x) = F (k + 1) (fo F (k + 1) y)
    rw [fo_first h k]
def askV (S : Int32) (c d : Nat) : Int32 := zmx (bz (bt S ((13 - d) % 7))) (nI c - bz (bt S ((13 - d) % 7)))
def askF (S : Int32) (c d : Nat) (x : Int32 × Int32) : Int32 × Int32 := if askV S c d < x.2 then (nI d, askV S c d) else x
theorem max_small (b : Bool) {c : Nat} (hc : 2 ≤ c) (hc2 : c ≤ 100) : zmx (bz b) (nI c - bz b) < nI 999 ∧ zmx (bz b) (nI c - bz b) < nI 2000000000 := by
  cases b
  · rw [bz_f, pk_sub (by omega), zmxN (by omega) (by omega)]
    exact ⟨nI_lt (by omega) (by omega), nI_lt (by omega) (by omega)⟩
  · rw [bz_t, pk_sub (by omega), zmxN (by omega) (by omega)]
    exact ⟨nI_lt (by omega) (by omega), nI_lt (by omega) (by omega)⟩
theorem a_ask (h : Cp Sm us sh w im rd t) : TO cdA (fX1_ask sh rd) (fX6_ask t) (Cp Sm us sh w im) := by
  obtain ⟨n, T, h1, h2, h3, h4, h5⟩ := told_pre h
  unfold fX1_ask fX6_ask
  simp only [li0, li1, li2, li3, li4, li5, li6, li7, li8, li9, li10, li11, li12, li13, li14, li15, li16, li20, li24, li26, li30, li31, li32, li40, li41, li43, li48, li50, li52, li57, li59, li60, li62, li64, li65, li66, li67, li97, li99, li100, li122, li236, li239, li240, li255, li254, li256, li304, li400, li703, li704, li999, li1000000, li2000000000, li3344, li3648, li9999, li10000, li32767, lm1, mjn_e, mlt_e]
  rw [c_tells sh rd h2 h3 h5 rin_sb7, x_heard t h1 h3 h4 (by omega), mo2_sm]
  cases hk : tOK n 7 T
  · simp only [Bool.false_eq_true, if_false, if_true, mox_r, mox_l, mob_sm, mo2_sm, bz_f, bz_t, twg_thrown_thrown, twg_thrown_m, t_le00, t_lt00, t_eq00, t_le10, t_lt10, t_eq10, t_le20, t_lt20, t_eq20, t_le30, t_lt30, t_eq30, t_lt01, t_lt02, t_lt03]
    exact told_no h _
  · obtain ⟨N, rfl, hN, hTB⟩ := told_ok hk (by omega)
    simp only [Bool.false_eq_true, if_false, if_true, mox_r, mox_l, mob_sm, mo2_sm, bz_f, bz_t, twg_thrown_thrown, twg_thrown_m, t_le00, t_lt00, t_eq00, t_le10, t_lt10, t_eq10, t_le20, t_lt20, t_eq20, t_le30, t_lt30, t_eq30, t_lt01, t_lt02, t_lt03]
    rw [if_neg (nIM (by omega)), c_shifts sh (rd2 rd) hN hTB h2 (told_b hTB h5), mob_sm, x_shiftsBy (tw_s_thrown (tw_s_taped t (nI 0)) (nI 0)) hN hTB (fun k hk => (h4 k hk).1), mob_sm]
    have hS : isN (shSet T N) 255 := isN_bs (k := 8) (by omega) (by omega)
    generalize shSet T N = S at hS ⊢
    rw [c_bits hS, mob_sm]
    obtain ⟨c, hc, ec⟩ := bc_N hS
    rw [ec]
    by_cases q : 2 ≤ c
    · rw [if_pos ((nI_leI (by omega) (by omega)).mpr q)]
      have hA := loop_p (fun n (x : Int32 × Int32) i => fX1_ask_L33 (rd2 rd) S (nI c) n x.1 x.2 i) (askF S c) (fun x => some (.inr (x.1, rd2 rd))) 7 ?_ ?_ (n := mFU) (by unfold mFU; omega) (nM, nI 999)
      · have hB := loop_p (fun n (x : Int32 × Int32) i => fX6_ask_L46 (tw_s_thrown (tw_s_taped t (nI 0)) (nI 0)) S n x.1 x.2 i) (askF S c) (fun x => some (x.1, tw_s_thrown (tw_s_taped t (nI 0)) (nI 0))) 7 ?_ ?_ (n := mFU) (by unfold mFU; omega) (nM, nI 2000000000)
        · have hm := max_small (bt S ((13 - 0) % 7)) q (by omega)
          have he : fo (askF S c) 7 (nM, nI 999) = fo (askF S c) 7 (nM, nI 2000000000) := fo_first (by
            unfold askF askV
            rw [if_pos hm.1, if_pos hm.2]) 6
          rw [he] at hA
          exact Or.inl ⟨_, _, _, hA, hB, rfl, told_cp h (nI 0)⟩
        · intro m x
          simp only [fX6_ask_L46, li0, li1, li2, li3, li4, li5, li6, li7, li8, li9, li10, li11, li12, li13, li14, li15, li16, li20, li24, li26, li30, li31, li32, li40, li41, li43, li48, li50, li52, li57, li59, li60, li62, li64, li65, li66, li67, li97, li99, li100, li122, li236, li239, li240, li255, li254, li256, li304, li400, li703, li704, li999, li1000000, li2000000000, li3344, li3648, li9999, li10000, li32767, lm1]
          rw [if_pos (Int32.le_refl _)]
        · intro m x d hd
          simp only [fX6_ask_L46, li0, li1, li2, li3, li4, li5, li6, li7, li8, li9, li10, li11, li12, li13, li14, li15, li16, li20, li24, li26, li30, li31, li32, li40, li41, li43, li48, li50, li52, li57, li59, li60, li62, li64, li65, li66, li67, li97, li99, li100, li122, li236, li239, li240, li255, li254, li256, li304, li400, li703, li704, li999, li1000000, li2000000000, li3344, li3648, li9999, li10000, li32767, lm1, mjn_e]
          rw [if_neg (nI_ge hd (by omega)), x_bits, mob_sm, ec, if_neg (fun z => by have := (nI_leI (by omega) (by omega)).mp z; omega), pk_sub (by omega), mrm_N (by omega) (by omega) (by omega), x_isOf _ (by omega), mob_sm]
          unfold askF askV
          cases bt S ((13 - d) % 7)
          · simp only [Bool.false_eq_true, if_false, if_true, mox_r, mox_l, mob_sm, mo2_sm, bz_f, bz_t, twg_thrown_thrown, twg_thrown_m, t_le00, t_lt00, t_eq00, t_le10, t_lt10, t_eq10, t_le20, t_lt20, t_eq20, t_le30, t_lt30, t_eq30, t_lt01, t_lt02, t_lt03, x_greater, nI_add]
            split <;> rfl
          · simp only [Bool.false_eq_true, if_false, if_true, mox_r, mox_l, mob_sm, mo2_sm, bz_f, bz_t, twg_thrown_thrown, twg_thrown_m, t_le00, t_lt00, t_eq00, t_le10, t_lt10, t_eq10, t_le20, t_lt20, t_eq20, t_le30, t_lt30, t_eq30, t_lt01, t_lt02, t_lt03, x_greater, nI_add]
            split <;> rfl
      · intro m x
        simp only [fX1_ask_L33, li0, li1, li2, li3, li4, li5, li6, li7, li8, li9, li10, li11, li12, li13, li14, li15, li16, li20, li24, li26, li30, li31, li32, li40, li41, li43, li48, li50, li52, li57, li59, li60, li62, li64, li65, li66, li67, li97, li99, li100, li122, li236, li239, li240, li255, li254, li256, li304, li400, li703, li704, li999, li1000000, li2000000000, li3344, li3648, li9999, li10000, li32767, lm1]
        rw [if_pos (Int32.le_refl _)]
      · intro m x d hd
        simp only [fX1_ask_L33, li0, li1, li2, li3, li4, li5, li6, li7, li8, li9, li10, li11, li12, li13, li14, li15, li16, li20, li24, li26, li30, li31, li32, li40, li41, li43, li48, li50, li52, li57, li59, li60, li62, li64, li65, li66, li67, li97, li99, li100, li122, li236, li239, li240, li255, li254, li256, li304, li400, li703, li704, li999, li1000000, li2000000000, li3344, li3648, li9999, li10000, li32767, lm1, mjn_e]
        rw [if_neg (nI_ge hd (by omega)), pk_sub (by omega), nI_add, show 6 - d + 7 = 13 - d by omega, mrm_N (by omega) (by omega) (by omega), c_has _ (by omega), mob_sm]
        unfold askF askV
        cases bt S ((13 - d) % 7)
        · simp only [Bool.false_eq_true, if_false, if_true, mox_r, mox_l, mob_sm, mo2_sm, bz_f, bz_t, twg_thrown_thrown, twg_thrown_m, t_le00, t_lt00, t_eq00, t_le10, t_lt10, t_eq10, t_le20, t_lt20, t_eq20, t_le30, t_lt30, t_eq30, t_lt01, t_lt02, t_lt03, nI_add]
          split <;> rfl
        · simp only [Bool.false_eq_true, if_false, if_true, mox_r, mox_l, mob_sm, mo2_sm, bz_f, bz_t, twg_thrown_thrown, twg_thrown_m, t_le00, t_lt00, t_eq00, t_le10, t_lt10, t_eq10, t_le20, t_lt20, t_eq20, t_le30, t_lt30, t_eq30, t_lt01, t_lt02, t_lt03, nI_add]
          split <;> rfl
    · rw [if_neg (fun z => q ((nI_leI (by omega) (by omega)).mp z))]
      obtain ⟨mf, hmf⟩ := mFU_e
      have hB : fX6_ask_L46 (tw_s_thrown (tw_s_taped t (nI 0)) (nI 0)) S mFU nM (nI 2000000000) (nI 0) = some (nM, tw_s_thrown (tw_s_taped t (nI 0)) (nI 0)) := by
        rw [hmf]
        simp only [fX6_ask_L46, li0, li1, li2, li3, li4, li5, li6, li7, li8, li9, li10, li11, li12, li13, li14, li15, li16, li20, li24, li26, li30, li31, li32, li40, li41, li43, li48, li50, li52, li57, li59, li60, li62, li64, li65, li66, li67, li97, li99, li100, li122, li236, li239, li240, li255, li254, li256, li304, li400, li703, li704, li999, li1000000, li2000000000, li3344, li3648, li9999, li10000, li32767, lm1]
        rw [if_neg (nI_ge (by omega) (by omega)), x_bits, mob_sm, ec, if_pos ((nI_leI (by omega) (by omega)).mpr (by omega))]
      exact Or.inl ⟨_, _, _, rfl, hB, rfl, told_cp h (nI 0)⟩
theorem loop_n {α γ : Type} (L : Nat → α → Nat → γ) (S : Nat → α) (K : α → γ) (G : Nat) (h0 : ∀ n, L (n + 1) (S G) G = K (S G)) (h1 : ∀ n g, g < G → L (n + 1) (S g) g = L n (S (g + 1)) (g + 1)) {n : Nat} (hn : G < n) : L n (S 0) 0 = K (S G) := by
  have key : ∀ d g n, g + d = G → d < n → L n (S g) g = K (S G) := by
    intro d
    induction d with
    | zero =>
      intro g n hg hn
      obtain rfl : g = G := by omega
      obtain ⟨n, rfl⟩ : ∃ q, n = q + 1 := ⟨n - 1, by omega⟩
      exact h0 n
    | succ d ih =>
      intro g n hg hn
      obtain ⟨n, rfl⟩ : ∃ q, n = q + 1 := ⟨n - 1, by omega⟩
      rw [h1 n g (by omega)]
      exact ih (g + 1) n (by omega) (by omega)
  exact key G 0 n (by omega) hn
def wd_ (W : Nat → Bool) : Nat → Nat
  | 0 => 0
  | g + 1 => wd_ W g + (if W (51 - g) = true then 1 else 0)
def fd_ (W : Nat → Bool) : Nat → Int32
  | 0 => nM
  | g + 1 => if W (51 - g) = true then nI (51 - g) else fd_ W g
theorem wd_wc (W : Nat → Bool) : ∀ g, g ≤ 52 → wc W (52 - g) + wd_ W g = wc W 52
  | 0, _ => rfl
  | g + 1, h => by
    have h1 := wd_wc W g (by omega)
    have e : 52 - g = (51 - g) + 1 := by omega
    rw [e] at h1
    show wc W (52 - (g + 1)) + (wd_ W g + (if W (51 - g) = true then 1 else 0)) = _
    rw [show 52 - (g + 1) = 51 - g by omega, ← h1]
    show _ = wc W (51 - g) + (if W (51 - g) = true then 1 else 0) + wd_ W g
    omega
def dn (g : Nat) : Int32 := if g = 52 then nM else nI (51 - g)
theorem c_boredL {K : Int32 → Int32 → Option ((String × Rd) ⊕ (Int32 × Rd))} {rd : Rd} (W : Nat → Bool) (hw : ∀ s, s < 100 → fX1_isWeek sh rd (nI s) = some (W s)) {mf : Nat} (hlt : 60 < mf) : fX1_bored_L14 K sh rd mf (nI 0) nM (dn 0) = K (nI (wd_ W 52)) (fd_ W 52) := by
  refine loop_n (fun m (x : Int32 × Int32) g => fX1_bored_L14 K sh rd m x.1 x.2 (dn g)) (fun g => (nI (wd_ W g), fd_ W g)) (fun x => K x.1 x.2) 52 ?_ ?_ (n := mf) (by omega)
  · intro m
    simp only [fX1_bored_L14, li0, li1, li2, li3, li4, li5, li6, li7, li8, li9, li10, li11, li12, li13, li14, li15, li16, li20, li24, li26, li30, li31, li32, li40, li41, li43, li48, li50, li52, li57, li59, li60, li62, li64, li65, li66, li67, li97, li99, li100, li122, li236, li239, li240, li255, li254, li256, li304, li400, li703, li704, li999, li1000000, li2000000000, li3344, li3648, li9999, li10000, li32767, lm1]
    rw [show dn 52 = nM from rfl, if_pos (by decide)]
  · intro m g hg
    have e1 : dn g = nI (51 - g) := if_neg (by omega)
    have e2 : nI (51 - g) + nM = dn (g + 1) := by
      unfold dn
      by_cases q : g + 1 = 52
      · rw [if_pos q, show 51 - g = 0 by omega]; decide
      · rw [if_neg q, show 51 - g = (51 - (g + 1)) + 1 by omega, nM_pred]
    simp only [fX1_bored_L14, li0, li1, li2, li3, li4, li5, li6, li7, li8, li9, li10, li11, li12, li13, li14, li15, li16, li20, li24, li26, li30, li31, li32, li40, li41, li43, li48, li50, li52, li57, li59, li60, li62, li64, li65, li66, li67, li97, li99, li100, li122, li236, li239, li240, li255, li254, li256, li304, li400, li703, li704, li999, li1000000, li2000000000, li3344, li3648, li9999, li10000, li32767, lm1]
    rw [e1, if_neg (Int32.not_lt.mpr (nI_le (Nat.zero_le _) (by omega))), hw _ (by omega), mob_sm, e2]
    show (if W (51 - g) = true then _ else _) = fX1_bored_L14 K sh rd m (nI (wd_ W g + (if W (51 - g) = true then 1 else 0))) (if W (51 - g) = true then nI (51 - g) else fd_ W g) (dn (g + 1))
    cases W (51 - g)
    · rfl
    · rw [nI_add]
      rfl
theorem x_boredL {tt : Tw} (W : Nat → Bool) (hf : ∀ j, j < 52 → tw_fits tt j = W j) : ∀ d j m, j + d = 52 → d < m → fX6_bored_L45 tt m (nI j) = some (fd_ W d, tt) := by
  intro d
  induction d with
  | zero =>
    intro j m hj hm
    obtain rfl : j = 52 := by omega
    obtain ⟨m, rfl⟩ : ∃ q, m = q + 1 := ⟨m - 1, by omega⟩
    simp only [fX6_bored_L45, li0, li1, li2, li3, li4, li5, li6, li7, li8, li9, li10, li11, li12, li13, li14, li15, li16, li20, li24, li26, li30, li31, li32, li40, li41, li43, li48, li50, li52, li57, li59, li60, li62, li64, li65, li66, li67, li97, li99, li100, li122, li236, li239, li240, li255, li254, li256, li304, li400, li703, li704, li999, li1000000, li2000000000, li3344, li3648, li9999, li10000, li32767, lm1]
    rw [if_pos (Int32.le_refl _)]
    rfl
  | succ d ih =>
    intro j m hj hm
    obtain ⟨m, rfl⟩ : ∃ q, m = q + 1 := ⟨m - 1, by omega⟩
    simp only [fX6_bored_L45, li0, li1, li2, li3, li4, li5, li6, li7, li8, li9, li10, li11, li12, li13, li14, li15, li16, li20, li24, li26, li30, li31, li32, li40, li41, li43, li48, li50, li52, li57, li59, li60, li62, li64, li65, li66, li67, li97, li99, li100, li122, li236, li239, li240, li255, li254, li256, li304, li400, li703, li704, li999, li1000000, li2000000000, li3344, li3648, li9999, li10000, li32767, lm1]
    rw [if_neg (nI_ge (by omega) (by omega)), mckN _ (by omega) (by omega), clN (by omega), hf j (by omega), nI_add, ih (j + 1) m (by omega) (by omega)]
    show _ = some ((if W (51 - d) = true then nI (51 - d) else fd_ W d), tt)
    rw [show 51 - d = j by omega]
    cases W j <;> rfl
theorem wd_52 (W : Nat → Bool) : wd_ W 52 = wc W 52 := by
  have hc := wd_wc W 52 (Nat.le_refl _)
  rw [Nat.sub_self, show wc W 0 = 0 from rfl, Nat.zero_add] at hc
  exact hc
theorem dn_0 : (51 : Int32) = dn 0 := by decide +kernel
end TOLD
