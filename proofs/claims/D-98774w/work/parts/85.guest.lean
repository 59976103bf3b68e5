/-! PURE LAWS: what is asked of a guest -/
theorem Cp.fr {Sm : zSem} {us : List Wd} {sh : Kp} {w im : Wd} {rd : Rd} {t t' : Tw} (h : Cp Sm us sh w im rd t) (f : FrT t t') (hf : tw_fault t' = tw_fault t) : Cp Sm us sh w im rd t' := by
  obtain ⟨a1, a2, a3, a4, a5, a6, a7, a8, a9⟩ := f
  unfold Cp at h ⊢
  rw [a1, a2, a3, a5, a6, a7, a8, hf]
  exact h
/-- a question that may throw; what it leaves in a place that nobody looks at is σ -/
def QO {ρ σ : Type} (cd : String → Int32) (A : Option ((String × σ) ⊕ (ρ × σ))) (B : Option (ρ × Tw)) (G : Tw → Prop) : Prop :=
  (∃ (r : ρ) (s : σ) (t6 : Tw), A = some (.inr (r, s)) ∧ B = some (r, t6) ∧ tw_thrown t6 = nI 0 ∧ G t6) ∨ ∃ (E : String) (s : σ) (r : ρ) (t6 : Tw), A = some (.inl (E, s)) ∧ B = some (r, t6) ∧ ¬ cd E = nI 0 ∧ tw_thrown t6 = cd E ∧ G t6
theorem QO.no {ρ σ : Type} {cd : String → Int32} {s : σ} {t : Tw} {G : Tw → Prop} {E : String} {k : Nat} (hc : cd E = nI k) (r : ρ) (h2 : ¬ nI k = nI 0) (hG : G (tw_s_thrown t (nI k))) : QO cd (some (.inl (E, s))) (some (r, tw_s_thrown t (nI k))) G := Or.inr ⟨E, s, r, _, rfl, rfl, by rw [hc]; exact h2, by rw [hc]; rfl, hG⟩
theorem QO.ok {ρ σ : Type} {cd : String → Int32} (r : ρ) (s : σ) {t6 : Tw} {G : Tw → Prop} (h0 : tw_thrown t6 = nI 0) (hG : G t6) : QO cd (some (.inr (r, s))) (some (r, t6)) G := Or.inl ⟨r, s, t6, rfl, rfl, h0, hG⟩
theorem x_guestL (t : Tw) (hI : Inv (tw_m t)) {g : Nat} (hg : g < 8) : fX6_guest_L120 t (nI g) mFU (nI 0) (nI 0) = some (bs (fun r => sSees (tw_m t) g r) 8, t) := by
  unfold bs
  refine loop_p (fun n a i => fX6_guest_L120 t (nI g) n a i) (fun r a => a ||| ob (sSees (tw_m t) g r) r) (fun a => some (a, t)) 8 ?_ ?_ (by decide) (nI 0)
  · intro n a
    simp only [fX6_guest_L120, li0, li1, li2, li3, li4, li5, li6, li7, li8, li9, li10, li11, li12, li13, li14, li15, li16, li20, li24, li26, li30, li31, li32, li40, li41, li43, li48, li50, li52, li57, li59, li60, li62, li64, li65, li66, li67, li97, li99, li100, li122, li236, li239, li240, li255, li254, li256, li304, li400, li703, li704, li999, li1000000, li2000000000, li3344, li3648, li9999, li10000, li32767, lm1]
    rw [if_pos (Int32.le_refl _)]
  · intro n a r hr
    simp only [fX6_guest_L120, li0, li1, li2, li3, li4, li5, li6, li7, li8, li9, li10, li11, li12, li13, li14, li15, li16, li20, li24, li26, li30, li31, li32, li40, li41, li43, li48, li50, li52, li57, li59, li60, li62, li64, li65, li66, li67, li97, li99, li100, li122, li236, li239, li240, li255, li254, li256, li304, li400, li703, li704, li999, li1000000, li2000000000, li3344, li3648, li9999, li10000, li32767, lm1]
    rw [if_neg (nI_ge hr (by omega)), x_sees t hI hg (by omega), mob_sm, nI_add]
    unfold ob one
    cases sSees (tw_m t) g r <;> rfl
theorem spies_bs {m : Nat → Int32} (hI : Inv m) {g : Nat} (hg : g < 8) : sSpies m (sRm m g) (sKey m g) = bs (fun r => sSees m g r) 8 := by
  have hr := (hI.rm hg).2
  apply b_ext
  intro i hi
  rw [bt_bs (by omega)]
  rcases Nat.lt_or_ge i 8 with q | q
  · rw [bt_spies m (by omega) q, decide_eq_true q, Bool.true_and]
    rfl
  · rw [bt_spies_hi hI (by omega) q, decide_eq_false (by omega), Bool.false_and]
section GUEST
variable {Sm : zSem} {us : List Wd} {sh : Kp} {w im : Wd} {rd : Rd} {t : Tw}
theorem o_guest (h : Cp Sm us sh w im rd t) (ssc : Sc) (p q : Int32) : QO cdIN (fX1_guest Sm sh w ssc p q) (fX6_guest t p q) (Cp Sm us sh w im rd) := by
  have hW := h.1.1
  have hI := h.1.2.1
  have hG := hI.G
  unfold fX1_guest fX6_guest
  simp only [li0, li1, li2, li3, li4, li5, li6, li7, li8, li9, li10, li11, li12, li13, li14, li15, li16, li20, li24, li26, li30, li31, li32, li40, li41, li43, li48, li50, li52, li57, li59, li60, li62, li64, li65, li66, li67, li97, li99, li100, li122, li236, li239, li240, li255, li254, li256, li304, li400, li703, li704, li999, li1000000, li2000000000, li3344, li3648, li9999, li10000, li32767, lm1, mjn_e, mlt_e]
  rw [c_guestAt hW, x_isGuest, mob_sm]
  cases hr : rin p (nI 0) (tw_m t 3 - nI 1)
  · simp only [Bool.false_eq_true, if_false, if_true, mox_r, mox_l, mob_sm, mo2_sm, bz_f, bz_t, twg_thrown_thrown, twg_thrown_m, t_le00, t_lt00, t_eq00, t_le10, t_lt10, t_eq10, t_le20, t_lt20, t_eq20, t_le30, t_lt30, t_eq30, t_lt01, t_lt02, t_lt03]
    exact QO.no cdIN_I _ (by decide +kernel) h
  · obtain ⟨g, hg, rfl⟩ := rin_G hI hr
    have hg8 : g < 8 := by omega
    rw [c_question, x_in, mob_sm]
    cases hr2 : rin q (nI 0) (nI 8)
    · simp only [Bool.false_eq_true, if_false, if_true, mox_r, mox_l, mob_sm, mo2_sm, bz_f, bz_t, twg_thrown_thrown, twg_thrown_m, t_le00, t_lt00, t_eq00, t_le10, t_lt10, t_eq10, t_le20, t_lt20, t_eq20, t_le30, t_lt30, t_eq30, t_lt01, t_lt02, t_lt03]
      exact QO.no cdIN_N _ (by decide +kernel) h
    · obtain ⟨j, hj, rfl⟩ := rin_N (by omega) hr2
      simp only [Bool.false_eq_true, if_false, if_true, mox_r, mox_l, mob_sm, mo2_sm, bz_f, bz_t, twg_thrown_thrown, twg_thrown_m, t_le00, t_lt00, t_eq00, t_le10, t_lt10, t_eq10, t_le20, t_lt20, t_eq20, t_le30, t_lt30, t_eq30, t_lt01, t_lt02, t_lt03]
      have h0 : Cp Sm us sh w im rd (tw_s_thrown t (nI 0)) := h
      have hI' : Inv (tw_m (tw_s_thrown t (nI 0))) := hI
      have h00 : tw_thrown (tw_s_thrown t (nI 0)) = nI 0 := rfl
      have hm9 : tw_m (tw_s_thrown t (nI 0)) = tw_m t := rfl
      have ne : ∀ {a b : Nat}, a ≤ 8 → b ≤ 8 → (nI a = nI b) = (a = b) := fun ha hb => propext (nI_eq (by omega) (by omega))
      have le : ∀ {a b : Nat}, a ≤ 8 → b ≤ 8 → (nI a ≤ nI b) = (a ≤ b) := fun ha hb => propext (nI_leI (by omega) (by omega))
      have hm8 : ∀ {α : Type} (K : Option α), mck (nI g) 8 K = K := fun K => mckN K hg8 (by omega)
      have hc8 : Int32.toNatClampNeg (nI g) = g := clN (by omega)
      simp only [hm8, hc8]
      have hj9 : j = 0 ∨ j = 1 ∨ j = 2 ∨ j = 3 ∨ j = 4 ∨ j = 5 ∨ j = 6 ∨ j = 7 ∨ j = 8 := by omega
      rcases hj9 with rfl | rfl | rfl | rfl | rfl | rfl | rfl | rfl | rfl
      · rw [if_pos rfl, if_neg (by decide +kernel), x_of _ hg8 (by omega), mob_sm, hW.room hg8]
        exact QO.ok _ _ h00 h0
      · rw [if_neg (by decide +kernel), if_pos rfl, if_neg (by decide +kernel), x_of _ hg8 (by omega), mob_sm, hW.wish hg8]
        exact QO.ok _ _ h00 h0
      · rw [if_neg (by decide +kernel), if_neg (by decide +kernel), if_pos rfl, if_neg (by decide +kernel), x_of _ hg8 (by omega), mob_sm, hW.doubt hg8]
        exact QO.ok _ _ h00 h0
      · rw [if_neg (by decide +kernel), if_neg (by decide +kernel), if_neg (by decide +kernel), if_pos rfl, if_neg (show ¬ nI 5 ≤ nI 3 by decide +kernel), x_of _ hg8 (by omega), mob_sm, hm9, ← hW.keyz hg8]
        cases wd_key w g
        · exact QO.ok _ _ h00 h0
        · exact QO.ok _ _ h00 h0
      · rw [if_neg (by decide +kernel), if_neg (by decide +kernel), if_neg (by decide +kernel), if_neg (by decide +kernel), if_pos rfl, if_neg (show ¬ nI 5 ≤ nI 4 by decide +kernel), x_of _ hg8 (by omega), mob_sm, hm9, ← hW.herez hg8]
        cases wd_here w g
        · exact QO.ok _ _ h00 h0
        · exact QO.ok _ _ h00 h0
      · rw [if_neg (by decide +kernel), if_neg (by decide +kernel), if_neg (by decide +kernel), if_neg (by decide +kernel), if_neg (by decide +kernel), if_pos rfl, if_pos (by decide +kernel), if_pos rfl, c_risk hW hg8, mob_sm, x_risk _ hg8, mob_sm]
        exact QO.ok _ _ h00 h0
      · rw [if_neg (by decide +kernel), if_neg (by decide +kernel), if_neg (by decide +kernel), if_neg (by decide +kernel), if_neg (by decide +kernel), if_neg (by decide +kernel), if_pos rfl, if_pos (by decide +kernel), if_neg (by decide +kernel), if_pos rfl]
        obtain ⟨ssc', e1⟩ := c_turnsBy h.1 sh ssc hg8
        obtain ⟨t', e2, e3, e4⟩ := x_turnsBy (Sm := Sm) (o := wd_law w) hI' h.1.2.2 hg8
        rw [e1, e2, mo2_sm, mo2_sm]
        exact QO.ok _ _ (e3.2.2.2.2.2.2.2.2.trans h00) (h0.fr e3 e4)
      · rw [if_neg (by decide +kernel), if_neg (by decide +kernel), if_neg (by decide +kernel), if_neg (by decide +kernel), if_neg (by decide +kernel), if_neg (by decide +kernel), if_neg (by decide +kernel), if_pos rfl, if_pos (by decide +kernel), if_neg (by decide +kernel), if_neg (by decide +kernel), if_neg (by decide +kernel), x_guestL _ hI' hg8, hW.room hg8, (hI.rm hg8).1, hW.key hg8, c_spies hW (by have := (hI.rm hg8).2; omega), mob_sm, spies_bs hI hg8]
        exact QO.ok _ _ h00 h0
      · rw [if_neg (by decide +kernel), if_neg (by decide +kernel), if_neg (by decide +kernel), if_neg (by decide +kernel), if_neg (by decide +kernel), if_neg (by decide +kernel), if_neg (by decide +kernel), if_neg (by decide +kernel), if_pos (by decide +kernel), if_neg (by decide +kernel), if_neg (by decide +kernel), if_pos rfl]
        unfold fX1_shareOf
        simp only [li0, li1, li2, li3, li4, li5, li6, li7, li8, li9, li10, li11, li12, li13, li14, li15, li16, li20, li24, li26, li30, li31, li32, li40, li41, li43, li48, li50, li52, li57, li59, li60, li62, li64, li65, li66, li67, li97, li99, li100, li122, li236, li239, li240, li255, li254, li256, li304, li400, li703, li704, li999, li1000000, li2000000000, li3344, li3648, li9999, li10000, li32767, lm1, hm8, hc8]
        rw [c_doubtOfAll hW hI, mob_sm, x_isHere _ hg8, mob_sm, x_doubts _ hI', mob_sm, hm9, hW.here hg8, hW.doubt hg8]
        cases hh : sHere (tw_m t) g
        · simp only [Bool.false_eq_true, if_false]
          by_cases q0 : sDoubts (tw_m t) = nI 0
          · rw [if_pos q0, mob_sm]; exact QO.ok _ _ h00 h0
          · rw [if_neg q0, mob_sm]; exact QO.ok _ _ h00 h0
        · simp only [if_true]
          by_cases q0 : sDoubts (tw_m t) = nI 0
          · rw [if_pos q0, if_pos q0, mob_sm]; exact QO.ok _ _ h00 h0
          · rw [if_neg q0, if_neg q0, x_of _ hg8 (by omega), mob_sm, mob_sm, mnz_e _ q0, mnz_e _ q0, mob_sm]
            exact QO.ok _ _ h00 h0
end GUEST
