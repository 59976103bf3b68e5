/-! PURE LAWS: questions that change nothing, second part -/
theorem lpV {α : Type} (L : Nat → Nat → α → Prop) (I : Nat → α → Prop) (s N : Nat) (hsN : s ≤ N) (hx : ∀ n a, I N a → L (n + 1) N a) (hs : ∀ n i a, s ≤ i → i < N → I i a → (∀ a', I (i + 1) a' → L n (i + 1) a') → L (n + 1) i a) {n : Nat} (hn : N < n) (a : α) (h : I s a) : L n s a := by
  have key : ∀ k n i a, s ≤ i → i + k = N → k < n → I i a → L n i a := by
    intro k
    induction k with
    | zero =>
      intro n i a h0 hi hk h
      obtain ⟨n, rfl⟩ : ∃ n', n = n' + 1 := ⟨n - 1, by omega⟩
      have : i = N := by omega
      subst this
      exact hx n a h
    | succ k ih =>
      intro n i a h0 hi hk h
      obtain ⟨n, rfl⟩ : ∃ n', n = n' + 1 := ⟨n - 1, by omega⟩
      exact hs n i a h0 (by omega) h (fun a' h' => ih n (i + 1) a' (by omega) (by omega) (by omega) h')
  exact key (N - s) n s a (Nat.le_refl _) (by omega) (by omega) h
def ER {ρ : Type} (A : Option ρ) (B : Option (ρ × Tw)) (t : Tw) : Prop := ∃ r, A = some r ∧ B = some (r, t)
def EX {ρ : Type} (A : Option (String ⊕ ρ)) (B : Option (ρ × Tw)) (t : Tw) : Prop := ∃ r, A = some (.inr r) ∧ B = some (r, t)
theorem ER.mk {ρ : Type} (r : ρ) (t : Tw) : ER (some r) (some (r, t)) t := ⟨r, rfl, rfl⟩
theorem EX.mk {ρ : Type} (r : ρ) (t : Tw) : EX (some (.inr r)) (some (r, t)) t := ⟨r, rfl, rfl⟩
theorem sub_lt0 {a b : Nat} (ha : a < 2 ^ 30) (hb : b < 2 ^ 30) : nI a - nI b < nI 0 ↔ a < b := by
  rw [Int32.lt_iff_toInt_lt, pk_sub_toInt ha hb, nI_toInt (by omega)]
  omega
theorem sub_eq0 {a b : Nat} (ha : a < 2 ^ 30) (hb : b < 2 ^ 30) : nI a - nI b = nI 0 ↔ a = b := by
  rw [← Int32.toInt_inj, pk_sub_toInt ha hb, nI_toInt (by omega)]
  omega
theorem sRisks_N {m : Nat → Int32} (hI : Inv m) (set : Int32) : isN (sRisks m set) 80 := by
  have h : ∀ n, n ≤ 8 → isN (fo (fun g a => a + (if bt set g = true then sRisk m g else nI 0)) n (nI 0)) (10 * n) := by
    intro n
    induction n with
    | zero => exact fun _ => ⟨0, by omega, rfl⟩
    | succ n ih =>
      intro h
      obtain ⟨j, h1, h2⟩ := ih (by omega)
      show isN (fo _ n (nI 0) + (if bt set n = true then sRisk m n else nI 0)) _
      rw [h2]
      obtain ⟨i, h3, h4⟩ := sRisk_N hI (show n < 8 by omega)
      rw [h4]
      split
      · exact ⟨j + i, by omega, nI_add _ _⟩
      · exact ⟨j + 0, by omega, nI_add _ _⟩
  exact (h (gN m) hI.G.2).mono (by have := hI.G.2; omega)
section OPS2
variable {w : Wd} {t : Tw}
theorem c_weightOf (h : RW w (tw_m t)) (hI : Inv (tw_m t)) (sh : Kp) {q : Nat} (hq : q < 8) : fX1_weightOf sh w (nI q) = some (nI 999 * bc (sWatch (tw_m t) q) + sRisks (tw_m t) (sWatch (tw_m t) q)) := by
  unfold fX1_weightOf
  simp only [li0, li1, li2, li3, li4, li5, li6, li7, li8, li9, li10, li11, li12, li13, li14, li15, li16, li20, li24, li26, li30, li31, li32, li40, li41, li43, li48, li50, li52, li57, li59, li60, li62, li64, li65, li66, li67, li97, li99, li100, li122, li236, li239, li240, li255, li254, li256, li304, li400, li703, li704, li999, li1000000, li2000000000, li3344, li3648, li9999, li10000, li32767, lm1]
  rw [c_watchers h hI hq, mob_sm, c_bits (sWatch_N hI q), mob_sm, c_riskOf h hI, mob_sm]

theorem b_best (h : RW w (tw_m t)) (hI : Inv (tw_m t)) (sh : Kp) : ER (fX1_best_L4 sh w mFU (nI 0) (nI 1)) (fX6_best_L9 t mFU (nI 0) (nI 1)) t := by
  refine lpV (α := Nat) (fun n i f => ER (fX1_best_L4 sh w n (nI f) (nI i)) (fX6_best_L9 t n (nI f) (nI i)) t) (fun _ f => f < 8) 1 8 (by omega) ?_ ?_ (by decide) 0 (by omega)
  · intro n f _
    simp only [fX1_best_L4, fX6_best_L9, li0, li1, li2, li3, li4, li5, li6, li7, li8, li9, li10, li11, li12, li13, li14, li15, li16, li20, li24, li26, li30, li31, li32, li40, li41, li43, li48, li50, li52, li57, li59, li60, li62, li64, li65, li66, li67, li97, li99, li100, li122, li236, li239, li240, li255, li254, li256, li304, li400, li703, li704, li999, li1000000, li2000000000, li3344, li3648, li9999, li10000, li32767, lm1]
    rw [if_pos (Int32.le_refl _), if_pos (Int32.le_refl _)]
    exact ER.mk _ _
  · intro n i f h1i hi hf ih
    simp only [fX1_best_L4, fX6_best_L9, li0, li1, li2, li3, li4, li5, li6, li7, li8, li9, li10, li11, li12, li13, li14, li15, li16, li20, li24, li26, li30, li31, li32, li40, li41, li43, li48, li50, li52, li57, li59, li60, li62, li64, li65, li66, li67, li97, li99, li100, li122, li236, li239, li240, li255, li254, li256, li304, li400, li703, li704, li999, li1000000, li2000000000, li3344, li3648, li9999, li10000, li32767, lm1]
    obtain ⟨a, ha, ea⟩ := bc_N (sWatch_N hI i)
    obtain ⟨b, hb, eb⟩ := bc_N (sWatch_N hI f)
    obtain ⟨c, hc, ec⟩ := sRisks_N hI (sWatch (tw_m t) i)
    obtain ⟨d, hd, ed⟩ := sRisks_N hI (sWatch (tw_m t) f)
    rw [if_neg (nI_ge hi (by omega)), if_neg (nI_ge hi (by omega)), c_weightOf h hI sh hi, c_weightOf h hI sh hf, x_watchers t hI hi, x_watchers t hI hf]
    simp only [mob_sm]
    rw [x_bits, x_bits, x_risksOf t hI, x_risksOf t hI]
    simp only [mob_sm]
    rw [ea, eb, ec, ed, pk_mul, pk_mul, nI_add, nI_add, nI_add]
    have e1 : (nI (999 * b + d) ≤ nI (999 * a + c)) ↔ (999 * b + d ≤ 999 * a + c) := nI_leI (by omega) (by omega)
    have e2 : (nI d ≤ nI c) ↔ (d ≤ c) := nI_leI (by omega) (by omega)
    have e3 := sub_lt0 (show a < 2 ^ 30 by omega) (show b < 2 ^ 30 by omega)
    have e4 := sub_eq0 (show a < 2 ^ 30 by omega) (show b < 2 ^ 30 by omega)
    by_cases q1 : a < b
    · rw [if_neg (fun z => by have := e1.mp z; omega), if_pos (e3.mpr q1)]
      exact ih i hi
    · rw [if_neg (fun z => q1 (e3.mp z))]
      by_cases q2 : a = b
      · rw [if_pos (e4.mpr q2)]
        by_cases q3 : d ≤ c
        · rw [if_pos (e1.mpr (by omega)), if_pos (e2.mpr q3)]
          exact ih f hf
        · rw [if_neg (fun z => by have := e1.mp z; omega), if_neg (fun z => q3 (e2.mp z))]
          exact ih i hi
      · rw [if_neg (fun z => q2 (e4.mp z)), if_pos (e1.mpr (by omega))]
        exact ih f hf
theorem o_best (h : RW w (tw_m t)) (hI : Inv (tw_m t)) (sh : Kp) : ER (fX1_best sh w) (fX6_best t) (tw_s_thrown t 0) := by
  unfold fX1_best fX6_best
  rw [mlt_e]
  simp only [li0, li1, li2, li3, li4, li5, li6, li7, li8, li9, li10, li11, li12, li13, li14, li15, li16, li20, li24, li26, li30, li31, li32, li40, li41, li43, li48, li50, li52, li57, li59, li60, li62, li64, li65, li66, li67, li97, li99, li100, li122, li236, li239, li240, li255, li254, li256, li304, li400, li703, li704, li999, li1000000, li2000000000, li3344, li3648, li9999, li10000, li32767, lm1]
  exact b_best (t := tw_s_thrown t (nI 0)) h hI sh
theorem b_keenest (h : RW w (tw_m t)) (hI : Inv (tw_m t)) : ER (fX1_keenest_L4 w mFU nM (nI 0)) (fX6_keenest_L9 t mFU nM (nI 0)) t := by
  obtain ⟨hG, hG8⟩ := hI.G
  refine lpU (α := Int32) (fun n i a => ER (fX1_keenest_L4 w n a (nI i)) (fX6_keenest_L9 t n a (nI i)) t) (fun _ a => a = nM ∨ ∃ f, f < 8 ∧ a = nI f) (gN (tw_m t)) ?_ ?_ (by unfold mFU; omega) nM (Or.inl rfl)
  · intro n a _
    simp only [fX1_keenest_L4, fX6_keenest_L9]
    rw [h.guests, hG, if_pos (Int32.le_refl _), if_pos (Int32.le_refl _)]
    exact ER.mk _ _
  · intro n i a hi ha ih
    simp only [fX1_keenest_L4, fX6_keenest_L9, li0, li1, li2, li3, li4, li5, li6, li7, li8, li9, li10, li11, li12, li13, li14, li15, li16, li20, li24, li26, li30, li31, li32, li40, li41, li43, li48, li50, li52, li57, li59, li60, li62, li64, li65, li66, li67, li97, li99, li100, li122, li236, li239, li240, li255, li254, li256, li304, li400, li703, li704, li999, li1000000, li2000000000, li3344, li3648, li9999, li10000, li32767, lm1]
    rw [h.guests, hG, if_neg (nI_ge hi (by omega)), if_neg (nI_ge hi (by omega)), mckN _ (by omega) (by omega), clN (by omega), h.here (by omega), x_isHere t (by omega), mob_sm, nI_add]
    cases sHere (tw_m t) i
    · exact ih a ha
    · rw [if_pos rfl, if_pos rfl]
      rcases ha with rfl | ⟨f, hf, rfl⟩
      · rw [if_pos rfl, if_pos rfl]
        exact ih _ (Or.inr ⟨i, by omega, rfl⟩)
      · rw [if_neg (nM_ne (by omega)), if_neg (nM_ne (by omega)), c_risk h (by omega), c_risk h hf, x_risk t (by omega), x_risk t hf]
        simp only [mob_sm]
        by_cases q : sRisk (tw_m t) i ≤ sRisk (tw_m t) f
        · rw [if_pos q, if_pos q]
          exact ih _ (Or.inr ⟨f, hf, rfl⟩)
        · rw [if_neg q, if_neg q]
          exact ih _ (Or.inr ⟨i, by omega, rfl⟩)
theorem o_keenest (h : RW w (tw_m t)) (hI : Inv (tw_m t)) (sh : Kp) : ER (fX1_keenest sh w) (fX6_keenest t) (tw_s_thrown t 0) := by
  unfold fX1_keenest fX6_keenest
  rw [mlt_e]
  simp only [li0, li1, li2, li3, li4, li5, li6, li7, li8, li9, li10, li11, li12, li13, li14, li15, li16, li20, li24, li26, li30, li31, li32, li40, li41, li43, li48, li50, li52, li57, li59, li60, li62, li64, li65, li66, li67, li97, li99, li100, li122, li236, li239, li240, li255, li254, li256, li304, li400, li703, li704, li999, li1000000, li2000000000, li3344, li3648, li9999, li10000, li32767, lm1]
  exact b_keenest (t := tw_s_thrown t (nI 0)) h hI
theorem b_alike2 (h : RW w (tw_m t)) (hI : Inv (tw_m t)) (K : Int32 → Option Int32) (K' : Int32 → Option (Int32 × Tw)) (hK : ∀ a, ER (K a) (K' a) t) {g : Nat} (hg : g < gN (tw_m t)) (a : Int32) : ER (fX1_alike_L19 w K (nI g) mFU a (nI (g + 1))) (fX6_alike_L23 t K' (nI g) mFU a (nI (g + 1))) t := by
  obtain ⟨hG, hG8⟩ := hI.G
  refine lpV (α := Int32) (fun n i a => ER (fX1_alike_L19 w K (nI g) n a (nI i)) (fX6_alike_L23 t K' (nI g) n a (nI i)) t) (fun _ _ => True) (g + 1) (gN (tw_m t)) (by omega) ?_ ?_ (by unfold mFU; omega) a trivial
  · intro n a _
    simp only [fX1_alike_L19, fX6_alike_L23]
    rw [h.guests, hG, if_pos (Int32.le_refl _), if_pos (Int32.le_refl _)]
    exact hK a
  · intro n i a h1 hi _ ih
    simp only [fX1_alike_L19, fX6_alike_L23, li0, li1, li2, li3, li4, li5, li6, li7, li8, li9, li10, li11, li12, li13, li14, li15, li16, li20, li24, li26, li30, li31, li32, li40, li41, li43, li48, li50, li52, li57, li59, li60, li62, li64, li65, li66, li67, li97, li99, li100, li122, li236, li239, li240, li255, li254, li256, li304, li400, li703, li704, li999, li1000000, li2000000000, li3344, li3648, li9999, li10000, li32767, lm1]
    rw [h.guests, hG, if_neg (nI_ge hi (by omega)), if_neg (nI_ge hi (by omega))]
    rw [mckN _ (show g < 8 by omega) (by omega), mckN _ (show i < 8 by omega) (by omega), mckN _ (show g < 8 by omega) (by omega), mckN _ (show i < 8 by omega) (by omega), clN (show g < 2 ^ 31 by omega), clN (show i < 2 ^ 31 by omega)]
    rw [x_of t (show g < 8 by omega) (by omega), x_of t (show i < 8 by omega) (by omega), x_of t (show g < 8 by omega) (by omega), x_of t (show i < 8 by omega) (by omega)]
    simp only [mob_sm]
    rw [h.wish (show g < 8 by omega), h.wish (show i < 8 by omega), h.room (show g < 8 by omega), h.room (show i < 8 by omega), nI_add]
    by_cases q : tw_m t (24 + 5 * g + 1) = tw_m t (24 + 5 * i + 1)
    · rw [if_pos q, if_pos q]
      by_cases q2 : tw_m t (24 + 5 * g + 0) = tw_m t (24 + 5 * i + 0)
      · rw [if_pos q2, if_pos q2]
        exact ih _ trivial
      · rw [if_neg q2, if_neg q2]
        exact ih _ trivial
    · rw [if_neg q, if_neg q]
      exact ih _ trivial
theorem b_alike (h : RW w (tw_m t)) (hI : Inv (tw_m t)) : ER (fX1_alike_L4 w mFU (nI 0) (nI 0)) (fX6_alike_L9 t mFU (nI 0) (nI 0)) t := by
  obtain ⟨hG, hG8⟩ := hI.G
  refine lpU (α := Int32) (fun n i a => ER (fX1_alike_L4 w n a (nI i)) (fX6_alike_L9 t n a (nI i)) t) (fun _ _ => True) (gN (tw_m t)) ?_ ?_ (by unfold mFU; omega) (nI 0) trivial
  · intro n a _
    simp only [fX1_alike_L4, fX6_alike_L9]
    rw [h.guests, hG, if_pos (Int32.le_refl _), if_pos (Int32.le_refl _)]
    exact ER.mk _ _
  · intro n i a hi _ ih
    simp only [fX1_alike_L4, fX6_alike_L9, li0, li1, li2, li3, li4, li5, li6, li7, li8, li9, li10, li11, li12, li13, li14, li15, li16, li20, li24, li26, li30, li31, li32, li40, li41, li43, li48, li50, li52, li57, li59, li60, li62, li64, li65, li66, li67, li97, li99, li100, li122, li236, li239, li240, li255, li254, li256, li304, li400, li703, li704, li999, li1000000, li2000000000, li3344, li3648, li9999, li10000, li32767, lm1, mjn_e]
    rw [h.guests, hG, if_neg (nI_ge hi (by omega)), if_neg (nI_ge hi (by omega)), nI_add]
    exact b_alike2 h hI _ _ (fun a => ih a trivial) hi a
theorem o_alike (h : RW w (tw_m t)) (hI : Inv (tw_m t)) (sh : Kp) : ER (fX1_alike sh w) (fX6_alike t) (tw_s_thrown t 0) := by
  unfold fX1_alike fX6_alike
  rw [mlt_e]
  simp only [li0, li1, li2, li3, li4, li5, li6, li7, li8, li9, li10, li11, li12, li13, li14, li15, li16, li20, li24, li26, li30, li31, li32, li40, li41, li43, li48, li50, li52, li57, li59, li60, li62, li64, li65, li66, li67, li97, li99, li100, li122, li236, li239, li240, li255, li254, li256, li304, li400, li703, li704, li999, li1000000, li2000000000, li3344, li3648, li9999, li10000, li32767, lm1]
  exact b_alike (t := tw_s_thrown t (nI 0)) h hI
theorem b_mutual2 (h : RW w (tw_m t)) (hI : Inv (tw_m t)) (K : Int32 → Option Int32) (K' : Int32 → Option (Int32 × Tw)) (hK : ∀ a, ER (K a) (K' a) t) {g : Nat} (hg : g < gN (tw_m t)) (a : Int32) : ER (fX1_mutual_L19 w K (nI g) mFU a (nI (g + 1))) (fX6_mutual_L23 t K' (nI g) mFU a (nI (g + 1))) t := by
  obtain ⟨hG, hG8⟩ := hI.G
  refine lpV (α := Int32) (fun n i a => ER (fX1_mutual_L19 w K (nI g) n a (nI i)) (fX6_mutual_L23 t K' (nI g) n a (nI i)) t) (fun _ _ => True) (g + 1) (gN (tw_m t)) (by omega) ?_ ?_ (by unfold mFU; omega) a trivial
  · intro n a _
    simp only [fX1_mutual_L19, fX6_mutual_L23]
    rw [h.guests, hG, if_pos (Int32.le_refl _), if_pos (Int32.le_refl _)]
    exact hK a
  · intro n i a h1 hi _ ih
    have hr := hI.rm (show g < 8 by omega)
    have hr2 := hI.rm (show i < 8 by omega)
    simp only [fX1_mutual_L19, fX6_mutual_L23, li0, li1, li2, li3, li4, li5, li6, li7, li8, li9, li10, li11, li12, li13, li14, li15, li16, li20, li24, li26, li30, li31, li32, li40, li41, li43, li48, li50, li52, li57, li59, li60, li62, li64, li65, li66, li67, li97, li99, li100, li122, li236, li239, li240, li255, li254, li256, li304, li400, li703, li704, li999, li1000000, li2000000000, li3344, li3648, li9999, li10000, li32767, lm1]
    rw [h.guests, hG, if_neg (nI_ge hi (by omega)), if_neg (nI_ge hi (by omega))]
    simp only [mckN _ (show g < 8 by omega) (show 8 < 2 ^ 31 by omega), mckN _ (show i < 8 by omega) (show 8 < 2 ^ 31 by omega)]
    rw [clN (show g < 2 ^ 31 by omega), clN (show i < 2 ^ 31 by omega), x_isHere t (show g < 8 by omega), x_isHere t (show i < 8 by omega), x_of t (show g < 8 by omega) (by omega), x_of t (show i < 8 by omega) (by omega)]
    simp only [mob_sm]
    rw [h.here (show g < 8 by omega), h.here (show i < 8 by omega), h.room (show g < 8 by omega), h.room (show i < 8 by omega), hr.1, hr2.1, c_sees h hI (show g < 8 by omega) (by omega), c_sees h hI (show i < 8 by omega) (by omega), x_sees t hI (show g < 8 by omega) (by omega), x_sees t hI (show i < 8 by omega) (by omega), nI_add]
    simp only [mob_sm]
    cases sHere (tw_m t) g
    · exact ih _ trivial
    · cases sHere (tw_m t) i
      · exact ih _ trivial
      · cases sSees (tw_m t) g (sRm (tw_m t) i)
        · exact ih _ trivial
        · cases sSees (tw_m t) i (sRm (tw_m t) g)
          · exact ih _ trivial
          · exact ih _ trivial
theorem b_mutual (h : RW w (tw_m t)) (hI : Inv (tw_m t)) : ER (fX1_mutual_L4 w mFU (nI 0) (nI 0)) (fX6_mutual_L9 t mFU (nI 0) (nI 0)) t := by
  obtain ⟨hG, hG8⟩ := hI.G
  refine lpU (α := Int32) (fun n i a => ER (fX1_mutual_L4 w n a (nI i)) (fX6_mutual_L9 t n a (nI i)) t) (fun _ _ => True) (gN (tw_m t)) ?_ ?_ (by unfold mFU; omega) (nI 0) trivial
  · intro n a _
    simp only [fX1_mutual_L4, fX6_mutual_L9]
    rw [h.guests, hG, if_pos (Int32.le_refl _), if_pos (Int32.le_refl _)]
    exact ER.mk _ _
  · intro n i a hi _ ih
    simp only [fX1_mutual_L4, fX6_mutual_L9, li0, li1, li2, li3, li4, li5, li6, li7, li8, li9, li10, li11, li12, li13, li14, li15, li16, li20, li24, li26, li30, li31, li32, li40, li41, li43, li48, li50, li52, li57, li59, li60, li62, li64, li65, li66, li67, li97, li99, li100, li122, li236, li239, li240, li255, li254, li256, li304, li400, li703, li704, li999, li1000000, li2000000000, li3344, li3648, li9999, li10000, li32767, lm1, mjn_e]
    rw [h.guests, hG, if_neg (nI_ge hi (by omega)), if_neg (nI_ge hi (by omega)), nI_add]
    exact b_mutual2 h hI _ _ (fun a => ih a trivial) hi a
theorem o_mutual (h : RW w (tw_m t)) (hI : Inv (tw_m t)) (sh : Kp) : ER (fX1_mutual sh w) (fX6_mutual t) (tw_s_thrown t 0) := by
  unfold fX1_mutual fX6_mutual
  rw [mlt_e]
  simp only [li0, li1, li2, li3, li4, li5, li6, li7, li8, li9, li10, li11, li12, li13, li14, li15, li16, li20, li24, li26, li30, li31, li32, li40, li41, li43, li48, li50, li52, li57, li59, li60, li62, li64, li65, li66, li67, li97, li99, li100, li122, li236, li239, li240, li255, li254, li256, li304, li400, li703, li704, li999, li1000000, li2000000000, li3344, li3648, li9999, li10000, li32767, lm1]
  exact b_mutual (t := tw_s_thrown t (nI 0)) h hI

theorem b_well (h : RW w (tw_m t)) : ER (fX1_well_L6 w mFU nM (nI 0) (nI 0)) (fX6_well_L11 t mFU nM (nI 0) (nI 0)) t := by
  refine lpU (α := Int32 × Int32) (fun n i a => ER (fX1_well_L6 w n a.1 a.2 (nI i)) (fX6_well_L11 t n a.1 a.2 (nI i)) t) (fun _ _ => True) 8 ?_ ?_ (by decide) (nM, nI 0) trivial
  · intro n a _
    simp only [fX1_well_L6, fX6_well_L11, li0, li1, li2, li3, li4, li5, li6, li7, li8, li9, li10, li11, li12, li13, li14, li15, li16, li20, li24, li26, li30, li31, li32, li40, li41, li43, li48, li50, li52, li57, li59, li60, li62, li64, li65, li66, li67, li97, li99, li100, li122, li236, li239, li240, li255, li254, li256, li304, li400, li703, li704, li999, li1000000, li2000000000, li3344, li3648, li9999, li10000, li32767, lm1]
    rw [if_pos (Int32.le_refl _), if_pos (Int32.le_refl _)]
    exact ER.mk _ _
  · intro n i a hi _ ih
    simp only [fX1_well_L6, fX6_well_L11, li0, li1, li2, li3, li4, li5, li6, li7, li8, li9, li10, li11, li12, li13, li14, li15, li16, li20, li24, li26, li30, li31, li32, li40, li41, li43, li48, li50, li52, li57, li59, li60, li62, li64, li65, li66, li67, li97, li99, li100, li122, li236, li239, li240, li255, li254, li256, li304, li400, li703, li704, li999, li1000000, li2000000000, li3344, li3648, li9999, li10000, li32767, lm1]
    rw [if_neg (nI_ge hi (by omega)), if_neg (nI_ge hi (by omega)), c_into h hi, x_from t hi]
    simp only [mob_sm]
    rw [c_bits (sInto_N _ _), x_bits]
    simp only [mob_sm]
    rw [nI_add]
    by_cases q : a.2 < bc (sInto (tw_m t) i)
    · rw [if_pos q, if_pos q]
      exact ih (_, _) trivial
    · rw [if_neg q, if_neg q]
      exact ih (_, _) trivial
theorem o_well (h : RW w (tw_m t)) (sh : Kp) : ER (fX1_well sh w) (fX6_well t) (tw_s_thrown t 0) := by
  unfold fX1_well fX6_well
  rw [mlt_e]
  simp only [li0, li1, li2, li3, li4, li5, li6, li7, li8, li9, li10, li11, li12, li13, li14, li15, li16, li20, li24, li26, li30, li31, li32, li40, li41, li43, li48, li50, li52, li57, li59, li60, li62, li64, li65, li66, li67, li97, li99, li100, li122, li236, li239, li240, li255, li254, li256, li304, li400, li703, li704, li999, li1000000, li2000000000, li3344, li3648, li9999, li10000, li32767, lm1]
  exact b_well (t := tw_s_thrown t (nI 0)) h

theorem b_crowd (h : RW w (tw_m t)) (hI : Inv (tw_m t)) : ER (fX1_crowd_L6 w mFU nM (nI 0) (nI 0)) (fX6_crowd_L11 t mFU nM (nI 0) (nI 0)) t := by
  refine lpU (α := Int32 × Int32) (fun n i a => ER (fX1_crowd_L6 w n a.1 a.2 (nI i)) (fX6_crowd_L11 t n a.1 a.2 (nI i)) t) (fun _ _ => True) 8 ?_ ?_ (by decide) (nM, nI 0) trivial
  · intro n a _
    simp only [fX1_crowd_L6, fX6_crowd_L11, li0, li1, li2, li3, li4, li5, li6, li7, li8, li9, li10, li11, li12, li13, li14, li15, li16, li20, li24, li26, li30, li31, li32, li40, li41, li43, li48, li50, li52, li57, li59, li60, li62, li64, li65, li66, li67, li97, li99, li100, li122, li236, li239, li240, li255, li254, li256, li304, li400, li703, li704, li999, li1000000, li2000000000, li3344, li3648, li9999, li10000, li32767, lm1]
    rw [if_pos (Int32.le_refl _), if_pos (Int32.le_refl _)]
    exact ER.mk _ _
  · intro n i a hi _ ih
    simp only [fX1_crowd_L6, fX6_crowd_L11, li0, li1, li2, li3, li4, li5, li6, li7, li8, li9, li10, li11, li12, li13, li14, li15, li16, li20, li24, li26, li30, li31, li32, li40, li41, li43, li48, li50, li52, li57, li59, li60, li62, li64, li65, li66, li67, li97, li99, li100, li122, li236, li239, li240, li255, li254, li256, li304, li400, li703, li704, li999, li1000000, li2000000000, li3344, li3648, li9999, li10000, li32767, lm1]
    rw [if_neg (nI_ge hi (by omega)), if_neg (nI_ge hi (by omega)), c_inside h hI hi, x_guestsIn t hI hi]
    simp only [mob_sm]
    rw [c_bits (sIn_N hI _), x_bits]
    simp only [mob_sm]
    rw [nI_add]
    by_cases q : a.2 < bc (sIn (tw_m t) i)
    · rw [if_pos q, if_pos q]
      exact ih (_, _) trivial
    · rw [if_neg q, if_neg q]
      exact ih (_, _) trivial
theorem o_crowd (h : RW w (tw_m t)) (hI : Inv (tw_m t)) (sh : Kp) : ER (fX1_crowd sh w) (fX6_crowd t) (tw_s_thrown t 0) := by
  unfold fX1_crowd fX6_crowd
  rw [mlt_e]
  simp only [li0, li1, li2, li3, li4, li5, li6, li7, li8, li9, li10, li11, li12, li13, li14, li15, li16, li20, li24, li26, li30, li31, li32, li40, li41, li43, li48, li50, li52, li57, li59, li60, li62, li64, li65, li66, li67, li97, li99, li100, li122, li236, li239, li240, li255, li254, li256, li304, li400, li703, li704, li999, li1000000, li2000000000, li3344, li3648, li9999, li10000, li32767, lm1]
  exact b_crowd (t := tw_s_thrown t (nI 0)) h hI
theorem b_locked (h : RW w (tw_m t)) (hI : Inv (tw_m t)) : ER (fX1_locked_L4 w mFU (nI 0) (nI 0)) (fX6_locked_L9 t mFU (nI 0) (nI 0)) t := by
  obtain ⟨hG, hG8⟩ := hI.G
  obtain ⟨b, hb, e⟩ := hI 4 7 rfl
  refine lpU (α := Int32) (fun n i a => ER (fX1_locked_L4 w n a (nI i)) (fX6_locked_L9 t n a (nI i)) t) (fun _ _ => True) (gN (tw_m t)) ?_ ?_ (by unfold mFU; omega) (nI 0) trivial
  · intro n a _
    simp only [fX1_locked_L4, fX6_locked_L9]
    rw [h.guests, hG, if_pos (Int32.le_refl _), if_pos (Int32.le_refl _)]
    exact ER.mk _ _
  · intro n i a hi _ ih
    have hr := hI.rm (show i < 8 by omega)
    simp only [fX1_locked_L4, fX6_locked_L9, li0, li1, li2, li3, li4, li5, li6, li7, li8, li9, li10, li11, li12, li13, li14, li15, li16, li20, li24, li26, li30, li31, li32, li40, li41, li43, li48, li50, li52, li57, li59, li60, li62, li64, li65, li66, li67, li97, li99, li100, li122, li236, li239, li240, li255, li254, li256, li304, li400, li703, li704, li999, li1000000, li2000000000, li3344, li3648, li9999, li10000, li32767, lm1]
    rw [h.guests, hG, if_neg (nI_ge hi (by omega)), if_neg (nI_ge hi (by omega))]
    simp only [mckN _ (show i < 8 by omega) (show 8 < 2 ^ 31 by omega)]
    rw [clN (show i < 2 ^ 31 by omega), h.here (show i < 8 by omega), h.bath, e, c_sees h hI (by omega) (by omega), h.room (by omega), x_watchers t hI (by omega), x_of t (by omega) (by omega), hr.1, c_spies h (by omega)]
    simp only [mob_sm]
    rw [c_has _ (by omega), x_isOf _ (by omega), x_seesFrom t (by omega) (by omega), bt_spies _ (by omega) (by omega), nI_add]
    simp only [mob_sm]
    have e2 : bt (sWatch (tw_m t) b) i = (sHere (tw_m t) i && sSees (tw_m t) i b) := by
      unfold sWatch
      rw [bt_bs (by omega), decide_eq_true hi, Bool.true_and]
    rw [e2]
    cases sHere (tw_m t) i
    · exact ih _ trivial
    · cases sSees (tw_m t) i b
      · exact ih _ trivial
      · cases sFrom (tw_m t) (sRm (tw_m t) i) false b
        · exact ih _ trivial
        · exact ih _ trivial
theorem o_locked (h : RW w (tw_m t)) (hI : Inv (tw_m t)) (sh : Kp) : ER (fX1_locked sh w) (fX6_locked t) (tw_s_thrown t 0) := by
  unfold fX1_locked fX6_locked
  rw [mlt_e]
  simp only [li0, li1, li2, li3, li4, li5, li6, li7, li8, li9, li10, li11, li12, li13, li14, li15, li16, li20, li24, li26, li30, li31, li32, li40, li41, li43, li48, li50, li52, li57, li59, li60, li62, li64, li65, li66, li67, li97, li99, li100, li122, li236, li239, li240, li255, li254, li256, li304, li400, li703, li704, li999, li1000000, li2000000000, li3344, li3648, li9999, li10000, li32767, lm1]
  exact b_locked (t := tw_s_thrown t (nI 0)) h hI
end OPS2
