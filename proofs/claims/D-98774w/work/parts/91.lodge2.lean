/-! PURE LAWS: lodging: the reference's table, the ways through both -/
def LF (t t' : Tw) : Prop := CF t t' ∧ tw_thrown t' = tw_thrown t
theorem LF.refl (t : Tw) : LF t t := ⟨⟨rfl, rfl, rfl, rfl, rfl, rfl, rfl, rfl⟩, rfl⟩
theorem LF.trans {t t' t'' : Tw} (h : LF t t') (q : LF t' t'') : LF t t'' := by
  obtain ⟨⟨a1, a2, a3, a4, a5, a6, a7, a8⟩, a9⟩ := h
  obtain ⟨⟨b1, b2, b3, b4, b5, b6, b7, b8⟩, b9⟩ := q
  exact ⟨⟨b1.trans a1, b2.trans a2, b3.trans a3, b4.trans a4, b5.trans a5, b6.trans a6, b7.trans a7, b8.trans a8⟩, b9.trans a9⟩
theorem LF.few (t : Tw) (F : Nat → Int32) : LF t (tw_s_fewest t F) := ⟨⟨rfl, rfl, rfl, rfl, rfl, rfl, rfl, rfl⟩, rfl⟩
theorem LF.hr (t : Tw) (A : Nat → Int32) : LF t (tw_s_here t A) := ⟨⟨rfl, rfl, rfl, rfl, rfl, rfl, rfl, rfl⟩, rfl⟩
theorem LF.hm (t : Tw) (k : Int32) : LF t (tw_s_hereMany t k) := ⟨⟨rfl, rfl, rfl, rfl, rfl, rfl, rfl, rfl⟩, rfl⟩
theorem tww_few (t : Tw) (a b : Nat → Int32) : tw_s_fewest (tw_s_fewest t a) b = tw_s_fewest t b := id rfl
def rRw (m : Nat → Int32) (F : Nat → Int32) (i : Nat) : Prop := ∀ t, t < 256 → F (256 * i + t) = rE (lgV m ((hLg m 0).drop i) t)
section LODGEX
variable {m : Nat → Int32} {tX : Tw}
theorem drop_in {l : List Nat} {i g : Nat} {r : List Nat} (h : l.drop i = g :: r) : l[i]? = some g ∧ l.drop (i + 1) = r ∧ i < l.length ∧ g ∈ l := by
  have h1 : l[i]? = some g := by
    have : (l.drop i)[0]? = some g := by rw [h]; rfl
    rw [List.getElem?_drop, Nat.add_zero] at this
    exact this
  have h2 : l.drop (i + 1) = r := by
    rw [← List.tail_drop, h]
    rfl
  obtain ⟨h3, h4⟩ := List.getElem?_eq_some_iff.mp h1
  exact ⟨h1, h2, h3, h4 ▸ List.getElem_mem h3⟩
theorem hLg_mem {g : Nat} (h : g ∈ hLg m 0) : g < gN m := hLc_mem m _ g h (by omega)
theorem x_by (hI : Inv m) (hm : tw_m tX = m) (hh : ∀ i g, (hLg m 0)[i]? = some g → tw_here tX i = nI g) {i g : Nat} {l : List Nat} (hd : (hLg m 0).drop i = g :: l) (hR : rRw m (tw_fewest tX) (i + 1)) {t r : Nat} (ht : t < 256) (hr : r < 8) : fX6_by tX (nI i) (nI t) (nI r) = some (rE (lgC m (lgV m l) g t r)) := by
  obtain ⟨hG, hG8⟩ := hI.G
  obtain ⟨d1, d2, d3, d4⟩ := drop_in hd
  have hg8 : g < 8 := by have := hLg_mem d4; omega
  have hl8 := hLg_len m 0
  have hi8 : i < 8 := by omega
  obtain ⟨hb, hb7⟩ := (hI 4 7 rfl).cl (by omega)
  obtain ⟨k1, k2⟩ := tkS_ok t ht r hr
  obtain ⟨q1, q2⟩ := hI.rm hg8
  have hlen : l.length ≤ 8 := by rw [← d2, List.length_drop]; omega
  unfold fX6_by
  simp only [li0, li1, li2, li3, li4, li5, li6, li7, li8, li9, li10, li11, li12, li13, li14, li15, li16, li20, li24, li26, li30, li31, li32, li40, li41, li43, li48, li50, li52, li57, li59, li60, li62, li64, li65, li66, li67, li97, li99, li100, li122, li236, li239, li240, li255, li254, li256, li304, li400, li703, li704, li999, li1000000, li2000000000, li3344, li3648, li9999, li10000, li32767, lm1, mjn_e]
  rw [mckN _ hi8 (by omega), x_isOf _ (by omega), mob_sm, clN (by omega), hh i g d1, x_of _ hg8 (by omega), mob_sm, hm]
  unfold lgC
  have hks : ∀ y : Bool, y = sKey m g → (mob (fX6_seesFrom tX (nI r) y (m 4)) fun r_12 => if r_12 = true then some (nI 2000000000) else mck (nI 256 * (nI i + nI 1) + (nI t ||| nI 1 <<< (nI r &&& nI 31))) 2304 (if tw_fewest tX (nI 256 * (nI i + nI 1) + (nI t ||| nI 1 <<< (nI r &&& nI 31))).toNatClampNeg = nI 2000000000 then some (nI 2000000000) else mck (nI 256 * (nI i + nI 1) + (nI t ||| nI 1 <<< (nI r &&& nI 31))) 2304 (mob (fX6_of tX (nI g) (nI 0)) fun r_18 => if r_18 = nI r then some (tw_fewest tX (nI 256 * (nI i + nI 1) + (nI t ||| nI 1 <<< (nI r &&& nI 31))).toNatClampNeg + nI 0) else some (tw_fewest tX (nI 256 * (nI i + nI 1) + (nI t ||| nI 1 <<< (nI r &&& nI 31))).toNatClampNeg + nI 1)))) = some (rE (if (!sFrom m r (sKey m g) (m 4).toNatClampNeg) = true then (lgV m l (tkS t r)).map (fun x => x + (if sRm m g = r then 0 else 1)) else none)) := by
    intro y hy
    rw [hb, x_seesFrom tX hr (by omega), mob_sm, hm, hy, ← hb]
    cases sFrom m r (sKey m g) (m 4).toNatClampNeg
    · simp only [Bool.false_eq_true, if_false, Bool.not_false, if_true]
      rw [nI_add, pk_mul, one_e, k1, nI_add, mckN _ (by omega) (by omega), clN (by omega), hR _ k2, d2]
      cases hv : lgV m l (tkS t r) with
      | none =>
        have er : rE none = nI 2000000000 := rfl
        rw [er, if_pos rfl]
        rfl
      | some x =>
        have er : rE (some x) = nI x := rfl
        have hx := lgV_le m _ _ _ hv
        rw [er, if_neg (fun z => absurd ((nI_eq (a := x) (by omega) (by omega)).mp z) (by omega)), mckN _ (by omega) (by omega), x_of _ hg8 (by omega), mob_sm, hm, q1]
        show (if nI (sRm m g) = nI r then some (nI x + nI 0) else some (nI x + nI 1)) = some (nI (x + (if sRm m g = r then 0 else 1)))
        by_cases y : sRm m g = r
        · rw [if_pos ((nI_eq (by omega) (by omega)).mpr y), if_pos y, nI_add]
        · rw [if_neg (fun z => y ((nI_eq (by omega) (by omega)).mp z)), if_neg y, nI_add]
    · rfl
  cases bt (nI t) r
  · simp only [Bool.false_eq_true, if_false, Bool.not_false, Bool.true_and]
    by_cases y : m (24 + 5 * g + 3) = nI 1
    · rw [if_pos y]
      exact hks true (decide_eq_true y).symm
    · rw [if_neg y]
      exact hks false (decide_eq_false y).symm
  · simp only [if_true, Bool.not_true, Bool.false_and, Bool.false_eq_true, if_false]
    rfl
theorem x_rowL97 (hI : Inv m) (hm : tw_m tX = m) (hh : ∀ i g, (hLg m 0)[i]? = some g → tw_here tX i = nI g) (hn : tw_hereMany tX = nI (hLg m 0).length) {i : Nat} (hi : i ≤ (hLg m 0).length) (hR : i < (hLg m 0).length → rRw m (tw_fewest tX) (i + 1)) {t : Nat} (ht : t < 256) (K : Int32 → Option (Int32 × Tw)) : fX6_lodge_L97 K tX (nI i) (nI t) mFU (if i = (hLg m 0).length then nI 0 else nI 2000000000) (nI 0) = K (rE (lgV m ((hLg m 0).drop i) t)) := by
  obtain ⟨hG, hG8⟩ := hI.G
  have hl8 := hLg_len m 0
  by_cases q : i = (hLg m 0).length
  · obtain ⟨n, hn1⟩ := mFU_e
    rw [if_pos q, hn1, fX6_lodge_L97]
    simp only [li0, li1, li2, li3, li4, li5, li6, li7, li8, li9, li10, li11, li12, li13, li14, li15, li16, li20, li24, li26, li30, li31, li32, li40, li41, li43, li48, li50, li52, li57, li59, li60, li62, li64, li65, li66, li67, li97, li99, li100, li122, li236, li239, li240, li255, li254, li256, li304, li400, li703, li704, li999, li1000000, li2000000000, li3344, li3648, li9999, li10000, li32767, lm1]
    rw [if_neg (by decide +kernel), hn, q, if_pos (Int32.le_refl _), List.drop_length]
    rfl
  · have hlt : i < (hLg m 0).length := by omega
    rw [if_neg q]
    have hd : (hLg m 0).drop i = (hLg m 0)[i] :: (hLg m 0).drop (i + 1) := List.drop_eq_getElem_cons hlt
    generalize (hLg m 0)[i] = g at hd
    obtain ⟨d1, d2, d3, d4⟩ := drop_in hd
    have hlen : ((hLg m 0).drop (i + 1)).length ≤ 8 := by rw [List.length_drop]; omega
    have hL := loop_c (fun n a x => fX6_lodge_L97 K tX (nI i) (nI t) n a x) (fun r => rE (fo (fun r a => oM a (lgC m (lgV m ((hLg m 0).drop (i + 1))) g t r)) r none)) K 8 ?_ ?_ (n := mFU) (by decide)
    · rw [hd]
      exact hL
    · intro n
      simp only [fX6_lodge_L97, li0, li1, li2, li3, li4, li5, li6, li7, li8, li9, li10, li11, li12, li13, li14, li15, li16, li20, li24, li26, li30, li31, li32, li40, li41, li43, li48, li50, li52, li57, li59, li60, li62, li64, li65, li66, li67, li97, li99, li100, li122, li236, li239, li240, li255, li254, li256, li304, li400, li703, li704, li999, li1000000, li2000000000, li3344, li3648, li9999, li10000, li32767, lm1]
      rw [if_pos (Int32.le_refl _)]
    · intro n r hr
      simp only [fX6_lodge_L97, li0, li1, li2, li3, li4, li5, li6, li7, li8, li9, li10, li11, li12, li13, li14, li15, li16, li20, li24, li26, li30, li31, li32, li40, li41, li43, li48, li50, li52, li57, li59, li60, li62, li64, li65, li66, li67, li97, li99, li100, li122, li236, li239, li240, li255, li254, li256, li304, li400, li703, li704, li999, li1000000, li2000000000, li3344, li3648, li9999, li10000, li32767, lm1]
      rw [if_neg (nI_ge hr (by omega)), hn, if_neg (nI_ge hlt (by omega)), x_by hI hm hh hd (hR hlt) ht hr, mob_sm, x_lesser, mob_sm, nI_add, rE_min (foC_le m hlen g t r) (fun v hv => lgC_le m hlen g t r v hv)]
      rfl
theorem x_rowL70 (hI : Inv m) (hm : tw_m tX = m) (hh : ∀ i g, (hLg m 0)[i]? = some g → tw_here tX i = nI g) (hn : tw_hereMany tX = nI (hLg m 0).length) {i : Nat} (hi : i ≤ (hLg m 0).length) (hR : i < (hLg m 0).length → rRw m (tw_fewest tX) (i + 1)) (K : Tw → Option (Int32 × Tw)) : fX6_lodge_L70 K (nI i) mFU (nI 0) tX = K (tw_s_fewest tX (cpf (tw_fewest tX) (256 * i) (fun t => rE (lgV m ((hLg m 0).drop i) t)) 256)) := by
  obtain ⟨hG, hG8⟩ := hI.G
  have hl8 := hLg_len m 0
  have hL := loop_c (fun n a x => fX6_lodge_L70 K (nI i) n x a) (fun j => tw_s_fewest tX (cpf (tw_fewest tX) (256 * i) (fun t => rE (lgV m ((hLg m 0).drop i) t)) j)) K 256 ?_ ?_ (n := mFU) (by decide)
  · rw [cpf_0] at hL
    exact hL
  · intro n
    simp only [fX6_lodge_L70, li0, li1, li2, li3, li4, li5, li6, li7, li8, li9, li10, li11, li12, li13, li14, li15, li16, li20, li24, li26, li30, li31, li32, li40, li41, li43, li48, li50, li52, li57, li59, li60, li62, li64, li65, li66, li67, li97, li99, li100, li122, li236, li239, li240, li255, li254, li256, li304, li400, li703, li704, li999, li1000000, li2000000000, li3344, li3648, li9999, li10000, li32767, lm1]
    rw [if_pos (Int32.le_refl _)]
  · intro n t ht
    show fX6_lodge_L70 K (nI i) (n + 1) (nI t) (tw_s_fewest tX (cpf (tw_fewest tX) (256 * i) (fun t => rE (lgV m ((hLg m 0).drop i) t)) t)) = fX6_lodge_L70 K (nI i) n (nI (t + 1)) (tw_s_fewest tX (cpf (tw_fewest tX) (256 * i) (fun t => rE (lgV m ((hLg m 0).drop i) t)) (t + 1)))
    rw [← cpf_s]
    have hF0 : ∀ k, 256 * i + t ≤ k → cpf (tw_fewest tX) (256 * i) (fun t => rE (lgV m ((hLg m 0).drop i) t)) t k = tw_fewest tX k := fun k hk => cpf_out (Or.inr (by omega))
    generalize cpf (tw_fewest tX) (256 * i) (fun t => rE (lgV m ((hLg m 0).drop i) t)) t = F at hF0 ⊢
    have hR2 : i < (hLg m 0).length → rRw m (tw_fewest (tw_s_fewest tX F)) (i + 1) := fun hlt t' ht' => by
      rw [twg_fewest_fewest, hF0 _ (by omega)]
      exact hR hlt t' ht'
    have hm' : tw_m (tw_s_fewest tX F) = m := by rw [twg_fewest_m, hm]
    have hn' : tw_hereMany (tw_s_fewest tX F) = nI (hLg m 0).length := by rw [twg_fewest_hereMany, hn]
    have hh' : ∀ i g, (hLg m 0)[i]? = some g → tw_here (tw_s_fewest tX F) i = nI g := fun i g h => by rw [twg_fewest_here]; exact hh i g h
    have hL97 := fun K => x_rowL97 (tX := tw_s_fewest tX F) hI hm' hh' hn' hi hR2 ht K
    simp only [fX6_lodge_L70, li0, li1, li2, li3, li4, li5, li6, li7, li8, li9, li10, li11, li12, li13, li14, li15, li16, li20, li24, li26, li30, li31, li32, li40, li41, li43, li48, li50, li52, li57, li59, li60, li62, li64, li65, li66, li67, li97, li99, li100, li122, li236, li239, li240, li255, li254, li256, li304, li400, li703, li704, li999, li1000000, li2000000000, li3344, li3648, li9999, li10000, li32767, lm1, mjn_e]
    rw [if_neg (nI_ge ht (by omega)), hn']
    have fin : ∀ y : Int32, y = rE (lgV m ((hLg m 0).drop i) t) → mck (nI 256 * nI i + nI t) 2304 (mlt (tw_s_fewest (tw_s_fewest tX F) (upd (tw_fewest (tw_s_fewest tX F)) (nI 256 * nI i + nI t).toNatClampNeg y)) fun t_49 => fX6_lodge_L70 K (nI i) n (nI t + nI 1) t_49) = fX6_lodge_L70 K (nI i) n (nI (t + 1)) (tw_s_fewest tX (upd F (256 * i + t) (rE (lgV m ((hLg m 0).drop i) t)))) := by
      intro y hy
      rw [pk_mul, nI_add, mckN _ (by omega) (by omega), clN (by omega), mlt_e, tww_few, twg_fewest_fewest, hy, nI_add]
    by_cases q : i = (hLg m 0).length
    · rw [if_pos ((nI_eq (by omega) (by omega)).mpr q)]
      simp only [if_pos q] at hL97
      rw [hL97]
      exact fin _ rfl
    · rw [if_neg (fun z => q ((nI_eq (by omega) (by omega)).mp z))]
      simp only [if_neg q] at hL97
      rw [hL97]
      exact fin _ rfl
theorem x_down (hI : Inv m) : ∀ (i n : Nat) (tX : Tw), i ≤ (hLg m 0).length + 1 → i < n → tw_m tX = m → (∀ i g, (hLg m 0)[i]? = some g → tw_here tX i = nI g) → tw_hereMany tX = nI (hLg m 0).length → (∀ j, i ≤ j → j ≤ (hLg m 0).length → rRw m (tw_fewest tX) j) → ∃ t' : Tw, (∀ K : Tw → Option (Int32 × Tw), fX6_lodge_L64 K n (nI i + nM) tX = K t') ∧ LF tX t' ∧ (∀ i g, (hLg m 0)[i]? = some g → tw_here t' i = nI g) ∧ tw_hereMany t' = nI (hLg m 0).length ∧ ∀ j, j ≤ (hLg m 0).length → rRw m (tw_fewest t') j := by
  obtain ⟨hG, hG8⟩ := hI.G
  have hl8 := hLg_len m 0
  intro i
  induction i with
  | zero =>
    intro n tX _ hn hm hh hn2 hR
    obtain ⟨n, rfl⟩ : ∃ n', n = n' + 1 := ⟨n - 1, by omega⟩
    refine ⟨tX, ?_, LF.refl _, hh, hn2, fun j => hR j (Nat.zero_le _)⟩
    intro K
    simp only [fX6_lodge_L64, li0, li1, li2, li3, li4, li5, li6, li7, li8, li9, li10, li11, li12, li13, li14, li15, li16, li20, li24, li26, li30, li31, li32, li40, li41, li43, li48, li50, li52, li57, li59, li60, li62, li64, li65, li66, li67, li97, li99, li100, li122, li236, li239, li240, li255, li254, li256, li304, li400, li703, li704, li999, li1000000, li2000000000, li3344, li3648, li9999, li10000, li32767, lm1]
    rw [if_pos (by decide +kernel)]
  | succ i ih =>
    intro n tX hi hn hm hh hn2 hR
    obtain ⟨n, rfl⟩ : ∃ n', n = n' + 1 := ⟨n - 1, by omega⟩
    have hF1 : ∀ j, i ≤ j → j ≤ (hLg m 0).length → rRw m (cpf (tw_fewest tX) (256 * i) (fun t => rE (lgV m ((hLg m 0).drop i) t)) 256) j := by
      intro j h1 h2 t ht
      rcases Nat.lt_or_ge i j with q | q
      · rw [cpf_out (Or.inr (by omega))]
        exact hR j (by omega) h2 t ht
      · have : j = i := by omega
        subst this
        rw [cpf_in ht]
    have e0 : ∀ K : Tw → Option (Int32 × Tw), fX6_lodge_L64 K (n + 1) (nI (i + 1) + nM) tX = fX6_lodge_L64 K n (nI i + nM) (tw_s_fewest tX (cpf (tw_fewest tX) (256 * i) (fun t => rE (lgV m ((hLg m 0).drop i) t)) 256)) := by
      intro K
      simp only [fX6_lodge_L64, li0, li1, li2, li3, li4, li5, li6, li7, li8, li9, li10, li11, li12, li13, li14, li15, li16, li20, li24, li26, li30, li31, li32, li40, li41, li43, li48, li50, li52, li57, li59, li60, li62, li64, li65, li66, li67, li97, li99, li100, li122, li236, li239, li240, li255, li254, li256, li304, li400, li703, li704, li999, li1000000, li2000000000, li3344, li3648, li9999, li10000, li32767, lm1]
      rw [nM_pred, if_neg (nI_nlt (Nat.zero_le i) (by omega)), mjn_e, x_rowL70 hI hm hh hn2 (by omega) (fun q => hR (i + 1) (Nat.le_refl _) (by omega))]
    simp only [e0]
    generalize cpf (tw_fewest tX) (256 * i) (fun t => rE (lgV m ((hLg m 0).drop i) t)) 256 = F at hF1 ⊢
    have hm' : tw_m (tw_s_fewest tX F) = m := by rw [twg_fewest_m, hm]
    have hn' : tw_hereMany (tw_s_fewest tX F) = nI (hLg m 0).length := by rw [twg_fewest_hereMany, hn2]
    have hh' : ∀ i g, (hLg m 0)[i]? = some g → tw_here (tw_s_fewest tX F) i = nI g := fun i g h => by rw [twg_fewest_here]; exact hh i g h
    obtain ⟨t', e1, e2, e3, e4, e5⟩ := ih n (tw_s_fewest tX F) (by omega) (by omega) hm' hh' hn' (fun j h1 h2 => by rw [twg_fewest_fewest]; exact hF1 j h1 h2)
    exact ⟨t', e1, (LF.few tX F).trans e2, e3, e4, e5⟩
theorem x_hereL (hI : Inv m) : ∀ (c g n k : Nat) (pre : List Nat) (tX : Tw), g + c = gN m → c < n → tw_m tX = m → hLg m 0 = pre ++ hLg m g → pre.length = k → tw_hereMany tX = nI k → (∀ i g', pre[i]? = some g' → tw_here tX i = nI g') → ∃ t' : Tw, (∀ K : Tw → Option (Int32 × Tw), fX6_lodge_L12 K n (nI g) tX = K t') ∧ LF tX t' ∧ tw_hereMany t' = nI (hLg m 0).length ∧ ∀ i g', (hLg m 0)[i]? = some g' → tw_here t' i = nI g' := by
  obtain ⟨hG, hG8⟩ := hI.G
  have hl8 := hLg_len m 0
  intro c
  induction c with
  | zero =>
    intro g n k pre tX hg hn hm hl hk hn2 hh
    obtain ⟨n, rfl⟩ : ∃ n', n = n' + 1 := ⟨n - 1, by omega⟩
    rw [hLg_G m (g := g) (by omega), List.append_nil] at hl
    refine ⟨tX, ?_, LF.refl _, ?_, ?_⟩
    · intro K
      simp only [fX6_lodge_L12]
      rw [hm, hG, show g = gN m by omega, if_pos (Int32.le_refl _)]
    · rw [hn2, hl, hk]
    · rw [hl]; exact hh
  | succ c ih =>
    intro g n k pre tX hg hn hm hl hk hn2 hh
    obtain ⟨n, rfl⟩ : ∃ n', n = n' + 1 := ⟨n - 1, by omega⟩
    have hlt : g < gN m := by omega
    have hs := hLg_s m hlt
    have e0 : ∀ K : Tw → Option (Int32 × Tw), fX6_lodge_L12 K (n + 1) (nI g) tX = if sHere m g = true then mck (nI k) 8 (mlt (tw_s_here tX (upd (tw_here tX) (nI k).toNatClampNeg (nI g))) fun t_70 => mlt (tw_s_hereMany t_70 (nI k + nI 1)) fun t_71 => fX6_lodge_L12 K n (nI (g + 1)) t_71) else fX6_lodge_L12 K n (nI (g + 1)) tX := by
      intro K
      simp only [fX6_lodge_L12, li0, li1, li2, li3, li4, li5, li6, li7, li8, li9, li10, li11, li12, li13, li14, li15, li16, li20, li24, li26, li30, li31, li32, li40, li41, li43, li48, li50, li52, li57, li59, li60, li62, li64, li65, li66, li67, li97, li99, li100, li122, li236, li239, li240, li255, li254, li256, li304, li400, li703, li704, li999, li1000000, li2000000000, li3344, li3648, li9999, li10000, li32767, lm1]
      rw [hm, hG, if_neg (nI_ge hlt (by omega)), x_isHere _ (by omega), mob_sm, hm, nI_add, hn2]
      have e9 : tw_hereMany (tw_s_here tX (upd (tw_here tX) (nI k).toNatClampNeg (nI g))) = nI k := hn2
      simp only [mlt_e, e9]
    simp only [e0]
    cases hq : sHere m g
    · rw [hq] at hs
      simp only [Bool.false_eq_true, if_false] at hs ⊢
      exact ih (g + 1) n k pre tX (by omega) (by omega) hm (by rw [hl, hs]) hk hn2 hh
    · rw [hq] at hs
      simp only [if_true] at hs ⊢
      have hk8 : k < 8 := by
        have := congrArg List.length hl
        rw [hs, List.length_append, List.length_cons] at this
        omega
      simp only [mckN _ hk8 (show 8 < 2 ^ 31 by omega), clN (show k < 2 ^ 31 by omega), mlt_e, nI_add]
      obtain ⟨t', e1, e2, e3, e4⟩ := ih (g + 1) n (k + 1) (pre ++ [g]) (tw_s_hereMany (tw_s_here tX (upd (tw_here tX) k (nI g))) (nI (k + 1))) (by omega) (by omega) hm (by rw [hl, hs, List.append_assoc]; rfl) (by rw [List.length_append, hk]; rfl) rfl (by
        intro i g' hi
        have e8 : tw_here (tw_s_hereMany (tw_s_here tX (upd (tw_here tX) k (nI g))) (nI (k + 1))) = upd (tw_here tX) k (nI g) := id rfl
        rw [e8]
        rcases Nat.lt_or_ge i k with q | q
        · rw [upd_n (by omega)]
          rw [List.getElem?_append_left (by omega)] at hi
          exact hh i g' hi
        · rw [List.getElem?_append_right (by omega)] at hi
          have hi2 : i = k := by
            have := (List.getElem?_eq_some_iff.mp hi).1
            rw [List.length_singleton] at this
            omega
          subst hi2
          rw [hk, Nat.sub_self] at hi
          cases hi
          rw [upd_s])
      exact ⟨t', e1, ((LF.hr tX _).trans (LF.hm _ _)).trans e2, e3, e4⟩
/-! how many are here -/
def cntN (p : Nat → Bool) (n : Nat) : Nat := fo (fun g a => a + (if p g = true then 1 else 0)) n 0
theorem cntN_s (p : Nat → Bool) (n : Nat) : cntN p (n + 1) = cntN p n + (if p n = true then 1 else 0) := rfl
theorem cntN_congr {p q : Nat → Bool} : ∀ {n : Nat}, (∀ g, g < n → p g = q g) → cntN p n = cntN q n := by
  intro n
  induction n with
  | zero => intro _; rfl
  | succ n ih => intro h; rw [cntN_s, cntN_s, ih (fun g hg => h g (by omega)), h n (by omega)]
theorem cntN_le (p : Nat → Bool) (n : Nat) : cntN p n ≤ n := by
  induction n with
  | zero => exact Nat.le_refl _
  | succ n ih => rw [cntN_s]; split <;> omega
theorem cntN_ext {p : Nat → Bool} {n : Nat} (h : ∀ g, n ≤ g → p g = false) : ∀ k, cntN p (n + k) = cntN p n := by
  intro k
  induction k with
  | zero => rfl
  | succ k ih => rw [← Nat.add_assoc, cntN_s, ih, h _ (by omega), if_neg (by decide)]; omega
theorem cnt_hLc (m : Nat → Int32) : ∀ c, c ≤ gN m → cntN (sHere m) (gN m) = cntN (sHere m) (gN m - c) + (hLc m c).length := by
  intro c
  induction c with
  | zero => intro _; rfl
  | succ c ih =>
    intro hc
    rw [ih (by omega), hLc, show gN m - c = (gN m - (c + 1)) + 1 by omega, cntN_s]
    cases sHere m (gN m - (c + 1))
    · simp only [Bool.false_eq_true, if_false]; omega
    · simp only [if_true, List.length_cons]; omega
theorem bit_e (x : Int32) {k : Nat} (hk : k < 31) : (x >>> (nI k &&& nI 31)) &&& nI 1 = if bt x k = true then nI 1 else nI 0 := by
  cases h : bt x k
  · rw [if_neg (by decide)]
    apply b_ext
    intro i hi
    rw [b_and, show (nI 31) = (31 : Int32) from rfl, b_sshr k (by omega) x hi, show nI 1 = one 0 from by decide, bt_one (by omega), bt_0]
    by_cases q : 0 = i
    · subst q
      rw [if_pos (by omega), Nat.add_zero, h]
      rfl
    · rw [decide_eq_false q, Bool.and_false]
  · rw [if_pos rfl]
    exact (has_e x hk).mpr h
theorem bc_cnt (x : Int32) : bc x = nI (cntN (bt x) 31) := by
  unfold bc cntN
  have key : ∀ n, n ≤ 31 → fo (fun g a => a + ((x >>> (nI g &&& nI 31)) &&& nI 1)) n (nI 0) = nI (fo (fun g a => a + (if bt x g = true then 1 else 0)) n 0) := by
    intro n
    induction n with
    | zero => intro _; rfl
    | succ n ih =>
      intro hn
      show fo (fun g a => a + ((x >>> (nI g &&& nI 31)) &&& nI 1)) n (nI 0) + ((x >>> (nI n &&& nI 31)) &&& nI 1) = nI (fo (fun g a => a + (if bt x g = true then 1 else 0)) n 0 + (if bt x n = true then 1 else 0))
      rw [ih (by omega), bit_e x (by omega), ← nI_add]
      congr 1
      cases bt x n <;> rfl
  exact key 31 (Nat.le_refl _)
theorem bc_ones (hI : Inv m) : bc (sOnes m) = nI (hLg m 0).length := by
  obtain ⟨hG, hG8⟩ := hI.G
  rw [bc_cnt]
  congr 1
  have e1 : cntN (bt (sOnes m)) 31 = cntN (fun g => decide (g < gN m) && sHere m g) 31 := cntN_congr fun g _ => by unfold sOnes; exact bt_bs (by omega)
  have e2 : cntN (fun g => decide (g < gN m) && sHere m g) (gN m + (31 - gN m)) = cntN (fun g => decide (g < gN m) && sHere m g) (gN m) := cntN_ext (fun g hg => by rw [decide_eq_false (by omega)]; rfl) _
  rw [show gN m + (31 - gN m) = 31 by omega] at e2
  have e3 : cntN (fun g => decide (g < gN m) && sHere m g) (gN m) = cntN (sHere m) (gN m) := cntN_congr fun g hg => by show (decide (g < gN m) && sHere m g) = _; rw [decide_eq_true hg, Bool.true_and]
  have e4 := cnt_hLc m (gN m) (Nat.le_refl _)
  rw [e1, e2, e3, e4, Nat.sub_self]
  show 0 + _ = _
  rw [Nat.zero_add]
  rfl
end LODGEX
