/-! PURE LAWS: what one turns by -/
def scM (m : Nat → Int32) (g : Nat) : Sc := (nI g, m (24 + 5 * g + 0), m (24 + 5 * g + 1), m (24 + 5 * g + 2), m 8, bc (m (16 + sRm m g)), m 10 / nI 7, sKey m g, sSat m (m 5).toNatClampNeg (m 10 + nI 1))
def trV (Sm : zSem) (o : Option Nat) (m : Nat → Int32) (g : Nat) : Int32 := match o with
  | none => nI 1
  | some q => match Sm q with
    | some nf => nf.2 (scM m g)
    | none => nI 0
theorem c_turnsBy {Sm : zSem} {w : Wd} {m : Nat → Int32} (h : WM Sm w m) (sh : Kp) (ssc : Sc) {g : Nat} (hg : g < 8) : ∃ ssc' : Sc, fX1_turnsBy Sm sh w ssc (nI g) = some (trV Sm (wd_law w) m g, ssc') := by
  obtain ⟨hW, hI, hL⟩ := h
  unfold fX1_turnsBy trV
  cases hq : wd_law w with
  | none => exact ⟨ssc, rfl⟩
  | some q =>
    rw [hq] at hL
    obtain ⟨n, f, g1, g2, g3, g4⟩ := hL
    obtain ⟨k1, k2⟩ := hI.rm hg
    have hk := (hI 5 1 rfl).cl (by omega)
    simp only [li0, li1, li2, li3, li4, li5, li6, li7, li8, li9, li10, li11, li12, li13, li14, li15, li16, li20, li24, li26, li30, li31, li32, li40, li41, li43, li48, li50, li52, li57, li59, li60, li62, li64, li65, li66, li67, li97, li99, li100, li122, li236, li239, li240, li255, li254, li256, li304, li400, li703, li704, li999, li1000000, li2000000000, li3344, li3648, li9999, li10000, li32767, lm1, mlt_e]
    show ∃ ssc' : Sc, mck (nI g) 8 _ = _
    have hm : ∀ {α : Type} (K : Option α), mck (nI g) 8 K = K := fun K => mckN K hg (by omega)
    have hc : Int32.toNatClampNeg (nI g) = g := clN (by omega)
    simp only [hm, hc]
    have hr : wd_room w g = nI (sRm m g) := (hW.room hg).trans k1
    rw [hr]
    have hm2 : ∀ {α : Type} (K : Option α), mck (nI (sRm m g)) 8 K = K := fun K => mckN K (by omega) (by omega)
    have hc2 : Int32.toNatClampNeg (nI (sRm m g)) = sRm m g := clN (by omega)
    simp only [hm2, hc2]
    rw [hW.holes (show sRm m g < 8 by omega), c_bits (hI.holes (by omega)), mob_sm, hW.kept, hk.1, c_isSat hW (show (m 5).toNatClampNeg < 2 by omega), mob_sm, g1, mob_sm]
    refine ⟨scM m g, ?_⟩
    rw [hW.towers, hW.day, hW.wish hg, hW.doubt hg, hW.key hg, ← k1]
    rfl
