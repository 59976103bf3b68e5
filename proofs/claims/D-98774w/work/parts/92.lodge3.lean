/-! PURE LAWS: lodging: the ways, the answer -/
section LODGEO
variable {w : Wd} {m : Nat → Int32} {tX : Tw}
theorem cE_iff {o : Option Nat} {v : Nat} (hv : v ≤ 1000) (ho : ∀ x, o = some x → x ≤ 1000) (d : Nat) (hd : d ≤ 1) : cE o + nI d = nI v ↔ o.map (fun x => x + d) = some v := by
  cases o with
  | none =>
    show nI 1000000 + nI d = nI v ↔ none = some v
    rw [nI_add, nI_eq (by omega) (by omega)]
    constructor
    · intro h; omega
    · intro h; exact nomatch h
  | some x =>
    have := ho x rfl
    show nI x + nI d = nI v ↔ some (x + d) = some v
    rw [nI_add, nI_eq (by omega) (by omega)]
    constructor
    · intro h; rw [h]
    · intro h; exact Option.some.inj h
theorem rE_iff {o : Option Nat} {v : Nat} (hv : v ≤ 1000) (ho : ∀ x, o = some x → x ≤ 1000) : rE o = nI v ↔ o = some v := by
  cases o with
  | none =>
    show nI 2000000000 = nI v ↔ none = some v
    rw [nI_eq (by omega) (by omega)]
    constructor
    · intro h; omega
    · intro h; exact nomatch h
  | some x =>
    have := ho x rfl
    show nI x = nI v ↔ some x = some v
    rw [nI_eq (by omega) (by omega)]
    constructor
    · intro h; rw [h]
    · intro h; exact Option.some.inj h
theorem c_L44 (h : RW w m) (hI : Inv m) {slo : Lo} (sh : Kp) {g t v r0 : Nat} (hg : g < gN m) (ht : t < 256) (hR : ∀ g', g' ≤ gN m → cRw m slo g') (hv : lgV m (hLg m g) t = some v) (hr0 : r0 < 8) (h1 : lgC m (lgV m (hLg m (g + 1))) g t r0 = some v) (h2 : ∀ r, r < r0 → lgC m (lgV m (hLg m (g + 1))) g t r ≠ some v) (K : Int32 → Option Int32) : ∀ (d r n : Nat), r + d = r0 → d < n → fX5_roomOf_L44 slo sh w (nI g) (nI t) K n (nI r) = K (nI r0) := by
  obtain ⟨hG, hG8⟩ := hI.G
  have hg8 : g < 8 := by omega
  have hl8 : (hLg m (g + 1)).length ≤ 8 := Nat.le_trans (hLg_len m _) hG8
  have hv8 : v ≤ 1000 := by have := lgV_le m _ _ _ hv; have := hLg_len m g; omega
  have eT : slo (256 * g + t) = nI v := by rw [hR g (by omega) t ht, hv]; rfl
  have stp : ∀ (n r : Nat), r < 8 → fX5_roomOf_L44 slo sh w (nI g) (nI t) K (n + 1) (nI r) = if lgC m (lgV m (hLg m (g + 1))) g t r = some v then K (nI r) else fX5_roomOf_L44 slo sh w (nI g) (nI t) K n (nI (r + 1)) := by
    intro n r hr
    simp only [fX5_roomOf_L44, li0, li1, li2, li3, li4, li5, li6, li7, li8, li9, li10, li11, li12, li13, li14, li15, li16, li20, li24, li26, li30, li31, li32, li40, li41, li43, li48, li50, li52, li57, li59, li60, li62, li64, li65, li66, li67, li97, li99, li100, li122, li236, li239, li240, li255, li254, li256, li304, li400, li703, li704, li999, li1000000, li2000000000, li3344, li3648, li9999, li10000, li32767, lm1, mjn_e]
    rw [c_can h hI slo sh hg8 ht hr, mob_sm]
    by_cases q : (!bt (nI t) r && !sFrom m r (sKey m g) (m 4).toNatClampNeg) = true
    · have e1 : lgC m (lgV m (hLg m (g + 1))) g t r = (lgV m (hLg m (g + 1)) (tkS t r)).map (fun x => x + (if sRm m g = r then 0 else 1)) := by unfold lgC; rw [if_pos q]
      rw [if_pos q, c_by h hI sh hg8 ht hr (hR (g + 1) (by omega)), mob_sm, c_at _ (by omega), mob_sm, mckN _ (by omega) (by omega), clN (by omega), nI_add, e1]
      have e2 : lo_least slo (256 * g + t) = nI v := eT
      rw [e2]
      have e3 := cE_iff hv8 (o := lgV m (hLg m (g + 1)) (tkS t r)) (fun x hx => by have := lgV_le m _ _ _ hx; omega) (if sRm m g = r then 0 else 1) (by split <;> omega)
      by_cases y : (lgV m (hLg m (g + 1)) (tkS t r)).map (fun x => x + (if sRm m g = r then 0 else 1)) = some v
      · rw [if_pos y, if_pos (e3.mpr y)]
      · rw [if_neg y, if_neg (fun z => y (e3.mp z))]
    · have e1 : lgC m (lgV m (hLg m (g + 1))) g t r = none := by unfold lgC; rw [if_neg q]
      rw [if_neg q, e1, if_neg (fun z => nomatch z), nI_add]
  intro d
  induction d with
  | zero =>
    intro r n hr hn
    obtain ⟨n, rfl⟩ : ∃ n', n = n' + 1 := ⟨n - 1, by omega⟩
    have : r = r0 := by omega
    subst this
    rw [stp n r hr0, if_pos h1]
  | succ d ih =>
    intro r n hr hn
    obtain ⟨n, rfl⟩ : ∃ n', n = n' + 1 := ⟨n - 1, by omega⟩
    rw [stp n r (by omega), if_neg (h2 r (by omega))]
    exact ih (r + 1) n (by omega) (by omega)
theorem x_L216 (hI : Inv m) (hm : tw_m tX = m) (hh : ∀ i g, (hLg m 0)[i]? = some g → tw_here tX i = nI g) (hR : ∀ j, j ≤ (hLg m 0).length → rRw m (tw_fewest tX) j) {i g : Nat} {l : List Nat} (hd : (hLg m 0).drop i = g :: l) {t v r0 : Nat} (ht : t < 256) (hv : lgV m (g :: l) t = some v) (hr0 : r0 < 8) (h1 : lgC m (lgV m l) g t r0 = some v) (h2 : ∀ r, r < r0 → lgC m (lgV m l) g t r ≠ some v) (K : Int32 → Option (Int32 × Tw)) : ∀ (d r n : Nat), r + d = r0 → d < n → fX6_lodge_L216 tX (nI i) (nI t) K n (nI r) = K (nI r0) := by
  obtain ⟨hG, hG8⟩ := hI.G
  obtain ⟨d1, d2, d3, d4⟩ := drop_in hd
  have hl8 := hLg_len m 0
  have hlen : l.length ≤ 8 := by rw [← d2, List.length_drop]; omega
  have hv8 : v ≤ 1000 := by have := lgV_le m _ _ _ hv; rw [List.length_cons] at this; omega
  have eT : tw_fewest tX (256 * i + t) = nI v := by rw [hR i (by omega) t ht, hd, hv]; rfl
  have stp : ∀ (n r : Nat), r < 8 → fX6_lodge_L216 tX (nI i) (nI t) K (n + 1) (nI r) = if lgC m (lgV m l) g t r = some v then K (nI r) else fX6_lodge_L216 tX (nI i) (nI t) K n (nI (r + 1)) := by
    intro n r hr
    simp only [fX6_lodge_L216, li0, li1, li2, li3, li4, li5, li6, li7, li8, li9, li10, li11, li12, li13, li14, li15, li16, li20, li24, li26, li30, li31, li32, li40, li41, li43, li48, li50, li52, li57, li59, li60, li62, li64, li65, li66, li67, li97, li99, li100, li122, li236, li239, li240, li255, li254, li256, li304, li400, li703, li704, li999, li1000000, li2000000000, li3344, li3648, li9999, li10000, li32767, lm1]
    rw [x_by hI hm hh hd (hR (i + 1) (by omega)) ht hr, mob_sm, pk_mul, nI_add, mckN _ (by omega) (by omega), clN (by omega), eT, nI_add]
    have e3 := rE_iff hv8 (o := lgC m (lgV m l) g t r) (fun x hx => lgC_le m hlen g t r x hx)
    by_cases y : lgC m (lgV m l) g t r = some v
    · rw [if_pos y, if_pos (e3.mpr y)]
    · rw [if_neg y, if_neg (fun z => y (e3.mp z))]
  intro d
  induction d with
  | zero =>
    intro r n hr hn
    obtain ⟨n, rfl⟩ : ∃ n', n = n' + 1 := ⟨n - 1, by omega⟩
    have : r = r0 := by omega
    subst this
    rw [stp n r hr0, if_pos h1]
  | succ d ih =>
    intro r n hr hn
    obtain ⟨n, rfl⟩ : ∃ n', n = n' + 1 := ⟨n - 1, by omega⟩
    rw [stp n r (by omega), if_neg (h2 r (by omega))]
    exact ih (r + 1) n (by omega) (by omega)
theorem lodge_way (h : RW w m) (hI : Inv m) {slo : Lo} (sh : Kp) (hRc : ∀ g', g' ≤ gN m → cRw m slo g') (hm : tw_m tX = m) (hh : ∀ i g, (hLg m 0)[i]? = some g → tw_here tX i = nI g) (hR : ∀ j, j ≤ (hLg m 0).length → rRw m (tw_fewest tX) j) : ∀ (c g i left n n' t v : Nat) (x3 : Int32), g + c = gN m → (hLg m 0).drop i = hLg m g → t < 256 → lgV m (hLg m g) t = some v → left < (hLg m g).length → c < n → left + 1 < n' → ∃ r : Nat, r < 8 ∧ fX5_roomOf_L7 w slo sh n (nI t) (nI left) (nI g) = some (nI r) ∧ fX6_lodge_L208 (nI (i + left)) tX n' (nI t) x3 (nI i) = some (nI r, tX) := by
  obtain ⟨hG, hG8⟩ := hI.G
  have hl8 := hLg_len m 0
  intro c
  induction c with
  | zero =>
    intro g i left n n' t v x3 hg hd ht hv hleft
    rw [hLg_G m (g := g) (by omega)] at hleft
    exact absurd hleft (Nat.not_lt_zero _)
  | succ c ih =>
    intro g i left n n' t v x3 hg hd ht hv hleft hn hn'
    obtain ⟨n, rfl⟩ : ∃ k, n = k + 1 := ⟨n - 1, by omega⟩
    have hlt : g < gN m := by omega
    have hs := hLg_s m hlt
    have hl9 := hLg_len m (g + 1)
    obtain ⟨n', rfl⟩ : ∃ k, n' = k + 1 := ⟨n' - 1, by omega⟩
    have e0 : ∀ left : Nat, fX5_roomOf_L7 w slo sh (n + 1) (nI t) (nI left) (nI g) = if sHere m g = true then fX5_roomOf_L44 slo sh w (nI g) (nI t) (fun (x5_9 : Int32) => if nI left = nI 0 then some x5_9 else fX5_roomOf_L7 w slo sh n (nI t ||| (nI 1 <<< (x5_9 &&& nI 31))) (nI left + nM) (nI (g + 1))) mFU (nI 0) else fX5_roomOf_L7 w slo sh n (nI t) (nI left) (nI (g + 1)) := by
      intro left
      simp only [fX5_roomOf_L7, li0, li1, li2, li3, li4, li5, li6, li7, li8, li9, li10, li11, li12, li13, li14, li15, li16, li20, li24, li26, li30, li31, li32, li40, li41, li43, li48, li50, li52, li57, li59, li60, li62, li64, li65, li66, li67, li97, li99, li100, li122, li236, li239, li240, li255, li254, li256, li304, li400, li703, li704, li999, li1000000, li2000000000, li3344, li3648, li9999, li10000, li32767, lm1, mjn_e]
      rw [h.guests, hG, if_neg (nI_ge hlt (by omega)), mckN _ (by omega) (by omega), clN (by omega), h.here (by omega), nI_add]
    rw [e0]
    cases hq : sHere m g
    · rw [hq] at hs
      simp only [Bool.false_eq_true, if_false] at hs ⊢
      rw [hs] at hd hv hleft
      exact ih (g + 1) i left n (n' + 1) t v x3 (by omega) hd ht hv hleft (by omega) hn'
    · rw [hq] at hs
      simp only [if_true] at hs ⊢
      rw [hs] at hd
      have hv2 := hv
      rw [hs] at hv2 hleft
      rw [List.length_cons] at hleft
      obtain ⟨r9, hr9, hc9⟩ := fo_oM (c := lgC m (lgV m (hLg m (g + 1))) g t) (n := 8) (v := v) hv2
      obtain ⟨r0, hr0, h1, h2⟩ := fst_r (P := fun r => decide (lgC m (lgV m (hLg m (g + 1))) g t r = some v)) hr9 (decide_eq_true hc9)
      have h1 : lgC m (lgV m (hLg m (g + 1))) g t r0 = some v := of_decide_eq_true h1
      have h2 : ∀ r, r < r0 → lgC m (lgV m (hLg m (g + 1))) g t r ≠ some v := fun r hr => of_decide_eq_false (h2 r hr)
      obtain ⟨k1, k2⟩ := tkS_ok t ht r0 hr0
      obtain ⟨d1, d2, d3, d4⟩ := drop_in hd
      rw [c_L44 h hI sh hlt ht hRc hv hr0 h1 h2 _ r0 0 mFU (by omega) (by unfold mFU; omega)]
      have ex : fX6_lodge_L208 (nI (i + left)) tX (n' + 1) (nI t) x3 (nI i) = fX6_lodge_L208 (nI (i + left)) tX n' (nI (tkS t r0)) (nI r0) (nI (i + 1)) := by
        simp only [fX6_lodge_L208, li0, li1, li2, li3, li4, li5, li6, li7, li8, li9, li10, li11, li12, li13, li14, li15, li16, li20, li24, li26, li30, li31, li32, li40, li41, li43, li48, li50, li52, li57, li59, li60, li62, li64, li65, li66, li67, li97, li99, li100, li122, li236, li239, li240, li255, li254, li256, li304, li400, li703, li704, li999, li1000000, li2000000000, li3344, li3648, li9999, li10000, li32767, lm1, mjn_e]
        rw [if_neg (nI_nlt (by omega) (by omega)), x_L216 hI hm hh hR hd ht hv2 hr0 h1 h2 _ r0 0 mFU (by omega) (by unfold mFU; omega), one_e, k1, nI_add]
      rw [ex]
      cases left with
      | zero =>
        refine ⟨r0, hr0, if_pos rfl, ?_⟩
        obtain ⟨n', rfl⟩ : ∃ k, n' = k + 1 := ⟨n' - 1, by omega⟩
        simp only [fX6_lodge_L208]
        rw [if_pos (nI_lt (by omega) (by omega))]
      | succ left =>
        have hv3 : ∃ v', lgV m (hLg m (g + 1)) (tkS t r0) = some v' := by
          unfold lgC at h1
          split at h1
          · cases hv9 : lgV m (hLg m (g + 1)) (tkS t r0) with
            | none => rw [hv9] at h1; exact nomatch h1
            | some x => exact ⟨x, rfl⟩
          · exact nomatch h1
        obtain ⟨v', hv'⟩ := hv3
        obtain ⟨r, e1, e2, e3⟩ := ih (g + 1) (i + 1) left n n' (tkS t r0) v' (nI r0) (by omega) d2 k2 hv' (by omega) (by omega) (by omega)
        refine ⟨r, e1, ?_, ?_⟩
        · rw [if_neg (fun z => absurd ((nI_eq (by omega) (by omega)).mp z) (by omega)), one_e, k1, nM_pred]
          exact e2
        · rw [show i + (left + 1) = i + 1 + left by omega]
          exact e3
end LODGEO
section LODGEP
variable {Sm : zSem} {us : List Wd} {sh : Kp} {w im : Wd} {rd : Rd} {t : Tw}
theorem x_tables (hI : Inv (tw_m t)) : ∃ t' : Tw, LF (tw_s_thrown t (nI 0)) t' ∧ (∀ i g, (hLg (tw_m t) 0)[i]? = some g → tw_here t' i = nI g) ∧ tw_hereMany t' = nI (hLg (tw_m t) 0).length ∧ (∀ j, j ≤ (hLg (tw_m t) 0).length → rRw (tw_m t) (tw_fewest t') j) ∧ ∀ p, fX6_lodge t p = if tw_fewest t' 0 = nI 2000000000 then some (nM, t') else if p = nM then some (tw_fewest t' 0, t') else if rin p (nI 0) (nI (hLg (tw_m t) 0).length - nI 1) = true then fX6_lodge_L208 p t' mFU (nI 0) (nI 0) (nI 0) else some (nM, t') := by
  obtain ⟨hG, hG8⟩ := hI.G
  have hl8 := hLg_len (tw_m t) 0
  have a0 : LF (tw_s_thrown t (nI 0)) (tw_s_hereMany (tw_s_thrown t (nI 0)) (nI 0)) := LF.hm _ _
  have am : tw_m (tw_s_hereMany (tw_s_thrown t (nI 0)) (nI 0)) = tw_m t := rfl
  have ah : tw_hereMany (tw_s_hereMany (tw_s_thrown t (nI 0)) (nI 0)) = nI 0 := rfl
  have e9 : ∀ p, fX6_lodge t p = fX6_lodge_L12 (fun t_4 => fX6_lodge_L64 (fun t_7 => if tw_fewest t_7 0 = nI 2000000000 then some (nM, t_7) else if p = nM then some (tw_fewest t_7 0, t_7) else if rin p (nI 0) (tw_hereMany t_7 - nI 1) = true then fX6_lodge_L208 p t_7 mFU (nI 0) (nI 0) (nI 0) else some (nM, t_7)) mFU (tw_hereMany t_4) t_4) mFU (nI 0) (tw_s_hereMany (tw_s_thrown t (nI 0)) (nI 0)) := by
    intro p
    unfold fX6_lodge
    simp only [li0, li1, li2, li3, li4, li5, li6, li7, li8, li9, li10, li11, li12, li13, li14, li15, li16, li20, li24, li26, li30, li31, li32, li40, li41, li43, li48, li50, li52, li57, li59, li60, li62, li64, li65, li66, li67, li97, li99, li100, li122, li236, li239, li240, li255, li254, li256, li304, li400, li703, li704, li999, li1000000, li2000000000, li3344, li3648, li9999, li10000, li32767, lm1, mlt_e, mjn_e, x_in, mob_sm]
  generalize tw_s_hereMany (tw_s_thrown t (nI 0)) (nI 0) = t2 at a0 am ah e9
  have key : ∃ t' : Tw, LF t2 t' ∧ (∀ i g, (hLg (tw_m t) 0)[i]? = some g → tw_here t' i = nI g) ∧ tw_hereMany t' = nI (hLg (tw_m t) 0).length ∧ (∀ j, j ≤ (hLg (tw_m t) 0).length → rRw (tw_m t) (tw_fewest t') j) ∧ ∀ K : Tw → Option (Int32 × Tw), fX6_lodge_L12 (fun t_4 => fX6_lodge_L64 K mFU (tw_hereMany t_4) t_4) mFU (nI 0) t2 = K t' := by
    obtain ⟨t3, b1, b2, b3, b4⟩ := x_hereL hI (gN (tw_m t)) 0 mFU 0 [] t2 (by omega) (by unfold mFU; omega) am rfl rfl ah (fun i g' hh => nomatch hh)
    obtain ⟨t', d1, d2, d3, d4, d5⟩ := x_down hI ((hLg (tw_m t) 0).length + 1) mFU t3 (Nat.le_refl _) (by unfold mFU; omega) (b2.1.1.trans am) b4 b3 (fun j h1 h2 => absurd h1 (by omega))
    refine ⟨t', b2.trans d2, d3, d4, d5, fun K => ?_⟩
    rw [b1, b3, ← nM_pred]
    exact d1 K
  obtain ⟨t', k1, k2, k3, k4, k5⟩ := key
  refine ⟨t', a0.trans k1, k2, k3, k4, fun p => ?_⟩
  rw [e9, k5, k3]
theorem o_lodge (h : Cp Sm us sh w im rd t) (slo : Lo) (p : Int32) : ∃ (r : Int32) (olo : Lo) (t6 : Tw), fX1_lodge sh w slo p = some (r, olo) ∧ fX6_lodge t p = some (r, t6) ∧ tw_thrown t6 = nI 0 ∧ Cp Sm us sh w im rd t6 := by
  have hW := h.1.1
  have hI := h.1.2.1
  obtain ⟨hG, hG8⟩ := hI.G
  have hl8 := hLg_len (tw_m t) 0
  have h0 : Cp Sm us sh w im rd (tw_s_thrown t (nI 0)) := h
  obtain ⟨t', k1, k2, k3, k4, k5⟩ := x_tables hI
  obtain ⟨slo', c1, c2⟩ := c_is hW hI slo sh
  have hC : Cp Sm us sh w im rd t' := h0.cf k1.1
  have hT : tw_thrown t' = nI 0 := k1.2
  have hm' : tw_m t' = tw_m t := k1.1.1
  have eF : tw_fewest t' 0 = rE (lgV (tw_m t) (hLg (tw_m t) 0) 0) := k4 0 (Nat.zero_le _) 0 (by omega)
  have eC : lo_least slo' 0 = cE (lgV (tw_m t) (hLg (tw_m t) 0) 0) := c2 0 (Nat.zero_le _) 0 (by omega)
  have hN : fX5_isNone slo' = some (match lgV (tw_m t) (hLg (tw_m t) 0) 0 with | none => true | some _ => false) := by
    unfold fX5_isNone
    simp only [li0, li1, li2, li3, li4, li5, li6, li7, li8, li9, li10, li11, li12, li13, li14, li15, li16, li20, li24, li26, li30, li31, li32, li40, li41, li43, li48, li50, li52, li57, li59, li60, li62, li64, li65, li66, li67, li97, li99, li100, li122, li236, li239, li240, li255, li254, li256, li304, li400, li703, li704, li999, li1000000, li2000000000, li3344, li3648, li9999, li10000, li32767, lm1]
    rw [eC]
    cases hv : lgV (tw_m t) (hLg (tw_m t) 0) 0 with
    | none => exact if_neg (by decide +kernel)
    | some v =>
      have := lgV_le (tw_m t) _ _ _ hv
      exact if_pos (show nI v < nI 1000000 from (nI_ltI (by omega) (by omega)).mpr (by omega))
  unfold fX1_lodge
  simp only [li0, li1, li2, li3, li4, li5, li6, li7, li8, li9, li10, li11, li12, li13, li14, li15, li16, li20, li24, li26, li30, li31, li32, li40, li41, li43, li48, li50, li52, li57, li59, li60, li62, li64, li65, li66, li67, li97, li99, li100, li122, li236, li239, li240, li255, li254, li256, li304, li400, li703, li704, li999, li1000000, li2000000000, li3344, li3648, li9999, li10000, li32767, lm1]
  rw [k5, eF]
  by_cases hp : p = nM
  · rw [if_pos hp, if_pos hp, c1, mob_sm, hN, mob_sm, eC]
    cases hv : lgV (tw_m t) (hLg (tw_m t) 0) 0 with
    | none =>
      have e1 : rE none = nI 2000000000 := rfl
      rw [if_pos rfl, e1, if_pos rfl]
      exact ⟨nM, slo', t', rfl, rfl, hT, hC⟩
    | some v =>
      have := lgV_le (tw_m t) _ _ _ hv
      have e1 : rE (some v) = nI v := rfl
      have e2 : cE (some v) = nI v := rfl
      simp only [Bool.false_eq_true, if_false]
      rw [e1, e2, if_neg (fun z => absurd ((nI_eq (by omega) (by omega)).mp z) (by omega)), if_pos hp]
      exact ⟨nI v, slo', t', rfl, rfl, hT, hC⟩
  · rw [if_neg hp, if_neg hp, c_hereOnes hW hI, mob_sm, c_bits (sOnes_N hI), mob_sm, bc_ones hI, c_in', mob_sm]
    cases hr : rin p (nI 0) (nI (hLg (tw_m t) 0).length - nI 1)
    · simp only [Bool.false_eq_true, if_false]
      refine ⟨nM, slo, t', rfl, ?_, hT, hC⟩
      split <;> rfl
    · rw [if_pos rfl, if_pos rfl, c1, mob_sm, hN, mob_sm]
      cases hv : lgV (tw_m t) (hLg (tw_m t) 0) 0 with
      | none =>
        have e1 : rE none = nI 2000000000 := rfl
        rw [if_pos rfl, e1, if_pos rfl]
        exact ⟨nM, slo', t', rfl, rfl, hT, hC⟩
      | some v =>
        have := lgV_le (tw_m t) _ _ _ hv
        have e1 : rE (some v) = nI v := rfl
        simp only [Bool.false_eq_true, if_false]
        rw [e1, if_neg (fun z => absurd ((nI_eq (by omega) (by omega)).mp z) (by omega)), if_neg hp]
        obtain ⟨j, hj, rfl, -⟩ := rin_L (x := nI (hLg (tw_m t) 0).length) (n := 8) (isN_n (by omega)) (by omega) hr
        rw [clN (by omega)] at hj
        obtain ⟨r, hr8, f1, f2⟩ := lodge_way hW hI sh c2 hm' k2 k4 (gN (tw_m t)) 0 0 j mFU mFU 0 v (nI 0) (by omega) rfl (by omega) hv hj (by unfold mFU; omega) (by unfold mFU; omega)
        rw [Nat.zero_add] at f2
        unfold fX5_roomOf
        simp only [li0, li1, li2, li3, li4, li5, li6, li7, li8, li9, li10, li11, li12, li13, li14, li15, li16, li20, li24, li26, li30, li31, li32, li40, li41, li43, li48, li50, li52, li57, li59, li60, li62, li64, li65, li66, li67, li97, li99, li100, li122, li236, li239, li240, li255, li254, li256, li304, li400, li703, li704, li999, li1000000, li2000000000, li3344, li3648, li9999, li10000, li32767, lm1]
        rw [f1, f2, mob_sm]
        exact ⟨nI r, slo', t', rfl, rfl, hT, hC⟩
end LODGEP
