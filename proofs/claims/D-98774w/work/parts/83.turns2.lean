/-! PURE LAWS: what one turns by, the reference's -/
def xQ (t : Tw) (F : Nat → Int32) (hk ie : Bool) (tu fa ba en aa de : Int32) : Tw := (tw_thrown t, tw_m t, tw_kept t, tw_hasImage t, tw_aside t, tw_acts t, tw_acted t, tw_tape t, tw_taped t, ba, en, aa, fa, de, F, hk, ie, tu, tw_here t, tw_hereMany t, tw_fewest t, tw_fits t)
theorem xQ_thrown (t : Tw) (F : Nat → Int32) (hk ie : Bool) (tu fa ba en aa de : Int32) : tw_thrown (xQ t F hk ie tu fa ba en aa de) = tw_thrown t := id rfl
theorem xQ_m (t : Tw) (F : Nat → Int32) (hk ie : Bool) (tu fa ba en aa de : Int32) : tw_m (xQ t F hk ie tu fa ba en aa de) = tw_m t := id rfl
theorem xQ_kept (t : Tw) (F : Nat → Int32) (hk ie : Bool) (tu fa ba en aa de : Int32) : tw_kept (xQ t F hk ie tu fa ba en aa de) = tw_kept t := id rfl
theorem xQ_hasImage (t : Tw) (F : Nat → Int32) (hk ie : Bool) (tu fa ba en aa de : Int32) : tw_hasImage (xQ t F hk ie tu fa ba en aa de) = tw_hasImage t := id rfl
theorem xQ_aside (t : Tw) (F : Nat → Int32) (hk ie : Bool) (tu fa ba en aa de : Int32) : tw_aside (xQ t F hk ie tu fa ba en aa de) = tw_aside t := id rfl
theorem xQ_acts (t : Tw) (F : Nat → Int32) (hk ie : Bool) (tu fa ba en aa de : Int32) : tw_acts (xQ t F hk ie tu fa ba en aa de) = tw_acts t := id rfl
theorem xQ_acted (t : Tw) (F : Nat → Int32) (hk ie : Bool) (tu fa ba en aa de : Int32) : tw_acted (xQ t F hk ie tu fa ba en aa de) = tw_acted t := id rfl
theorem xQ_tape (t : Tw) (F : Nat → Int32) (hk ie : Bool) (tu fa ba en aa de : Int32) : tw_tape (xQ t F hk ie tu fa ba en aa de) = tw_tape t := id rfl
theorem xQ_taped (t : Tw) (F : Nat → Int32) (hk ie : Bool) (tu fa ba en aa de : Int32) : tw_taped (xQ t F hk ie tu fa ba en aa de) = tw_taped t := id rfl
theorem xQ_base (t : Tw) (F : Nat → Int32) (hk ie : Bool) (tu fa ba en aa de : Int32) : tw_base (xQ t F hk ie tu fa ba en aa de) = ba := id rfl
theorem xQ_end_ (t : Tw) (F : Nat → Int32) (hk ie : Bool) (tu fa ba en aa de : Int32) : tw_end_ (xQ t F hk ie tu fa ba en aa de) = en := id rfl
theorem xQ_at_ (t : Tw) (F : Nat → Int32) (hk ie : Bool) (tu fa ba en aa de : Int32) : tw_at_ (xQ t F hk ie tu fa ba en aa de) = aa := id rfl
theorem xQ_fault (t : Tw) (F : Nat → Int32) (hk ie : Bool) (tu fa ba en aa de : Int32) : tw_fault (xQ t F hk ie tu fa ba en aa de) = fa := id rfl
theorem xQ_deep (t : Tw) (F : Nat → Int32) (hk ie : Bool) (tu fa ba en aa de : Int32) : tw_deep (xQ t F hk ie tu fa ba en aa de) = de := id rfl
theorem xQ_fact (t : Tw) (F : Nat → Int32) (hk ie : Bool) (tu fa ba en aa de : Int32) : tw_fact (xQ t F hk ie tu fa ba en aa de) = F := id rfl
theorem xQ_hasKey (t : Tw) (F : Nat → Int32) (hk ie : Bool) (tu fa ba en aa de : Int32) : tw_hasKey (xQ t F hk ie tu fa ba en aa de) = hk := id rfl
theorem xQ_isEve (t : Tw) (F : Nat → Int32) (hk ie : Bool) (tu fa ba en aa de : Int32) : tw_isEve (xQ t F hk ie tu fa ba en aa de) = ie := id rfl
theorem xQ_turns (t : Tw) (F : Nat → Int32) (hk ie : Bool) (tu fa ba en aa de : Int32) : tw_turns (xQ t F hk ie tu fa ba en aa de) = tu := id rfl
theorem xQ_here (t : Tw) (F : Nat → Int32) (hk ie : Bool) (tu fa ba en aa de : Int32) : tw_here (xQ t F hk ie tu fa ba en aa de) = tw_here t := id rfl
theorem xQ_hereMany (t : Tw) (F : Nat → Int32) (hk ie : Bool) (tu fa ba en aa de : Int32) : tw_hereMany (xQ t F hk ie tu fa ba en aa de) = tw_hereMany t := id rfl
theorem xQ_fewest (t : Tw) (F : Nat → Int32) (hk ie : Bool) (tu fa ba en aa de : Int32) : tw_fewest (xQ t F hk ie tu fa ba en aa de) = tw_fewest t := id rfl
theorem xQ_fits (t : Tw) (F : Nat → Int32) (hk ie : Bool) (tu fa ba en aa de : Int32) : tw_fits (xQ t F hk ie tu fa ba en aa de) = tw_fits t := id rfl
theorem xQs_fact (t : Tw) (F : Nat → Int32) (hk ie : Bool) (tu fa ba en aa de : Int32) (v : Nat → Int32) : tw_s_fact (xQ t F hk ie tu fa ba en aa de) v = xQ t v hk ie tu fa ba en aa de := id rfl
theorem xQs_hasKey (t : Tw) (F : Nat → Int32) (hk ie : Bool) (tu fa ba en aa de : Int32) (v : Bool) : tw_s_hasKey (xQ t F hk ie tu fa ba en aa de) v = xQ t F v ie tu fa ba en aa de := id rfl
theorem xQs_isEve (t : Tw) (F : Nat → Int32) (hk ie : Bool) (tu fa ba en aa de : Int32) (v : Bool) : tw_s_isEve (xQ t F hk ie tu fa ba en aa de) v = xQ t F hk v tu fa ba en aa de := id rfl
theorem xQs_turns (t : Tw) (F : Nat → Int32) (hk ie : Bool) (tu fa ba en aa de : Int32) (v : Int32) : tw_s_turns (xQ t F hk ie tu fa ba en aa de) v = xQ t F hk ie v fa ba en aa de := id rfl
theorem xQs_fault (t : Tw) (F : Nat → Int32) (hk ie : Bool) (tu fa ba en aa de : Int32) (v : Int32) : tw_s_fault (xQ t F hk ie tu fa ba en aa de) v = xQ t F hk ie tu v ba en aa de := id rfl
theorem xQs_base (t : Tw) (F : Nat → Int32) (hk ie : Bool) (tu fa ba en aa de : Int32) (v : Int32) : tw_s_base (xQ t F hk ie tu fa ba en aa de) v = xQ t F hk ie tu fa v en aa de := id rfl
theorem xQs_end_ (t : Tw) (F : Nat → Int32) (hk ie : Bool) (tu fa ba en aa de : Int32) (v : Int32) : tw_s_end_ (xQ t F hk ie tu fa ba en aa de) v = xQ t F hk ie tu fa ba v aa de := id rfl
theorem xQs_at_ (t : Tw) (F : Nat → Int32) (hk ie : Bool) (tu fa ba en aa de : Int32) (v : Int32) : tw_s_at_ (xQ t F hk ie tu fa ba en aa de) v = xQ t F hk ie tu fa ba en v de := id rfl
theorem xQs_deep (t : Tw) (F : Nat → Int32) (hk ie : Bool) (tu fa ba en aa de : Int32) (v : Int32) : tw_s_deep (xQ t F hk ie tu fa ba en aa de) v = xQ t F hk ie tu fa ba en aa v := id rfl
theorem xQ_self (t : Tw) : t = xQ t (tw_fact t) (tw_hasKey t) (tw_isEve t) (tw_turns t) (tw_fault t) (tw_base t) (tw_end_ t) (tw_at_ t) (tw_deep t) := id rfl
theorem x_turnsBy {Sm : zSem} {o : Option Nat} {t : Tw} (hI : Inv (tw_m t)) (hL : Lw Sm o (tw_m t)) {g : Nat} (hg : g < 8) : ∃ t' : Tw, fX6_turnsBy t (nI g) = some (trV Sm o (tw_m t) g, t') ∧ FrT t t' ∧ tw_fault t' = tw_fault t := by
  unfold fX6_turnsBy trV
  cases o with
  | none =>
    have hL : tw_m t 1 = nM := hL
    simp only [li0, li1, li2, li3, li4, li5, li6, li7, li8, li9, li10, li11, li12, li13, li14, li15, li16, li20, li24, li26, li30, li31, li32, li40, li41, li43, li48, li50, li52, li57, li59, li60, li62, li64, li65, li66, li67, li97, li99, li100, li122, li236, li239, li240, li255, li254, li256, li304, li400, li703, li704, li999, li1000000, li2000000000, li3344, li3648, li9999, li10000, li32767, lm1]
    rw [hL, if_pos rfl]
    exact ⟨t, rfl, ⟨rfl, rfl, rfl, rfl, rfl, rfl, rfl, rfl, rfl⟩, rfl⟩
  | some q =>
    obtain ⟨n, f, g1, g2, g3, g4⟩ := hL
    obtain ⟨k1, k2⟩ := hI.rm hg
    have hk := (hI 5 1 rfl).cl (by omega)
    have hm : ∀ {α : Type} (K : Option α), mck (nI (16 + sRm (tw_m t) g)) 704 K = K := fun K => mckN K (by omega) (by omega)
    have hc : Int32.toNatClampNeg (nI (16 + sRm (tw_m t) g)) = 16 + sRm (tw_m t) g := clN (by omega)
    simp only [li0, li1, li2, li3, li4, li5, li6, li7, li8, li9, li10, li11, li12, li13, li14, li15, li16, li20, li24, li26, li30, li31, li32, li40, li41, li43, li48, li50, li52, li57, li59, li60, li62, li64, li65, li66, li67, li97, li99, li100, li122, li236, li239, li240, li255, li254, li256, li304, li400, li703, li704, li999, li1000000, li2000000000, li3344, li3648, li9999, li10000, li32767, lm1, mlt_e, mjn_e]
    rw [g3, if_neg (nM_ne (by omega))]
    have e0 : ∀ F, tw_s_fact t F = xQ t F (tw_hasKey t) (tw_isEve t) (tw_turns t) (tw_fault t) (tw_base t) (tw_end_ t) (tw_at_ t) (tw_deep t) := fun F => by
      conv => lhs; rw [xQ_self t]
      rw [xQs_fact]
    simp only [e0, x_of _ hg (show 0 < 5 by omega), x_of _ hg (show 1 < 5 by omega), x_of _ hg (show 2 < 5 by omega), x_of _ hg (show 3 < 5 by omega), mob_sm, xQ_thrown, xQ_m, xQ_kept, xQ_hasImage, xQ_aside, xQ_acts, xQ_acted, xQ_tape, xQ_taped, xQ_base, xQ_end_, xQ_at_, xQ_fault, xQ_deep, xQ_fact, xQ_hasKey, xQ_isEve, xQ_turns, xQ_here, xQ_hereMany, xQ_fewest, xQ_fits, xQs_fact, xQs_hasKey, xQs_isEve, xQs_turns, xQs_fault, xQs_base, xQs_end_, xQs_at_, xQs_deep, x_bits]
    rw [k1, nI_add]
    simp only [hm, hc]
    generalize hF : (upd _ 6 (tw_m t 10 / nI 7) : Nat → Int32) = F
    have hF2 : (F 0, F 1, F 2, F 3, F 4, F 5, F 6) = (nI g, tw_m t (24 + 5 * g + 0), tw_m t (24 + 5 * g + 1), tw_m t (24 + 5 * g + 2), tw_m t 8, bc (tw_m t (16 + sRm (tw_m t) g)), tw_m t 10 / nI 7) := by
      subst hF
      rw [← k1]
      rfl
    have hgo : ∀ (y : Bool), y = sKey (tw_m t) g → ∀ z : Option (Int32 × Tw), z = (mo2 (fX6_read (xQ t F y (sSat (tw_m t) (tw_m t 5).toNatClampNeg (tw_m t 10 + nI 1)) (nI 0) nM (nI 304) (tw_m t 2) (nI 0) (nI 0)) true) fun r_38 t_37 => some (tw_turns (tw_s_fault t_37 (tw_fault t)), tw_s_fault t_37 (tw_fault t))) → ∃ t' : Tw, z = some (match Sm q with | some nf => nf.2 (scM (tw_m t) g) | none => nI 0, t') ∧ FrT t t' ∧ tw_fault t' = tw_fault t := by
      intro y hy z hz
      obtain ⟨r, t', e1, e2, e3⟩ := g4 (xQ t F y (sSat (tw_m t) (tw_m t 5).toNatClampNeg (tw_m t 10 + nI 1)) (nI 0) nM (nI 304) (tw_m t 2) (nI 0) (nI 0)) (fun k _ _ => by rw [xQ_m]) (by rw [xQ_base]) (by rw [xQ_end_]) (by rw [xQ_at_]) (by rw [xQ_deep]) (by rw [xQ_fault]) (by rw [xQ_turns])
      rw [e1, mo2_sm, twg_fault_turns] at hz
      refine ⟨tw_s_fault t' (tw_fault t), ?_, ?_, by rw [twg_fault_fault]⟩
      · rw [hz, e2, g1]
        have e4 : scT (xQ t F y (sSat (tw_m t) (tw_m t 5).toNatClampNeg (tw_m t 10 + nI 1)) (nI 0) nM (nI 304) (tw_m t 2) (nI 0) (nI 0)) = scM (tw_m t) g := by
          unfold scT scM
          simp only [xQ_fact, xQ_hasKey, xQ_isEve]
          simp only [Prod.mk.injEq] at hF2 ⊢
          obtain ⟨f0, f1, f2, f3, f4, f5, f6⟩ := hF2
          exact ⟨f0, f1, f2, f3, f4, f5, f6, hy, trivial⟩
        rw [e4]
      · obtain ⟨a1, a2, a3, a4, a5, a6, a7, a8, a9⟩ := e3
        simp only [xQ_m, xQ_kept, xQ_hasImage, xQ_aside, xQ_acts, xQ_acted, xQ_tape, xQ_taped, xQ_thrown] at a1 a2 a3 a4 a5 a6 a7 a8 a9
        refine ⟨?_, ?_, ?_, ?_, ?_, ?_, ?_, ?_, ?_⟩
        · rw [twg_fault_m, a1]
        · rw [twg_fault_kept, a2]
        · rw [twg_fault_hasImage, a3]
        · rw [twg_fault_aside, a4]
        · rw [twg_fault_acts, a5]
        · rw [twg_fault_acted, a6]
        · rw [twg_fault_tape, a7]
        · rw [twg_fault_taped, a8]
        · rw [twg_fault_thrown, a9]
    have hs : ∀ y : Bool, fX6_isSaturday (xQ t F y (tw_isEve t) (tw_turns t) (tw_fault t) (tw_base t) (tw_end_ t) (tw_at_ t) (tw_deep t)) (tw_m t 5) (tw_m t 10 + nI 1) = some (sSat (tw_m t) (tw_m t 5).toNatClampNeg (tw_m t 10 + nI 1)) := fun y => by
      rw [hk.1, x_isSat _ (show (tw_m t 5).toNatClampNeg < 2 by omega), xQ_m, ← hk.1]
    by_cases hkey : tw_m t (24 + 5 * g + 3) = nI 1
    · rw [if_pos hkey, hs, mob_sm]
      exact hgo true (decide_eq_true hkey).symm _ rfl
    · rw [if_neg hkey, hs, mob_sm]
      exact hgo false (decide_eq_false hkey).symm _ rfl
