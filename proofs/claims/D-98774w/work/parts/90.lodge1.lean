/-! PURE LAWS: lodging: the fewest who go, by the guests who are left -/
def oM (a b : Option Nat) : Option Nat := match a, b with
  | none, b => b
  | some x, none => some x
  | some x, some y => some (min x y)
theorem oM_some {a b : Option Nat} {v : Nat} (h : oM a b = some v) : a = some v ∨ b = some v := by
  cases a with
  | none => exact Or.inr h
  | some x =>
    cases b with
    | none => exact Or.inl h
    | some y =>
      have h : some (min x y) = some v := h
      injection h with h
      rcases Nat.le_total x y with q | q
      · rw [Nat.min_eq_left q] at h; exact Or.inl (by rw [h])
      · rw [Nat.min_eq_right q] at h; exact Or.inr (by rw [h])
def tkS (t r : Nat) : Nat := (nI t ||| one r).toNatClampNeg
theorem tkS_ok : ∀ t, t < 256 → ∀ r, r < 8 → nI t ||| one r = nI (tkS t r) ∧ tkS t r < 256 := by decide +kernel
def lgC (m : Nat → Int32) (V : Nat → Option Nat) (g t r : Nat) : Option Nat := if (!bt (nI t) r && !sFrom m r (sKey m g) (m 4).toNatClampNeg) = true then (V (tkS t r)).map (fun x => x + (if sRm m g = r then 0 else 1)) else none
def lgV (m : Nat → Int32) : List Nat → Nat → Option Nat
  | [], _ => some 0
  | g :: l, t => fo (fun r a => oM a (lgC m (lgV m l) g t r)) 8 none
theorem fo_oM {c : Nat → Option Nat} : ∀ {n v : Nat}, fo (fun r a => oM a (c r)) n none = some v → ∃ r, r < n ∧ c r = some v := by
  intro n
  induction n with
  | zero => intro v h; exact nomatch h
  | succ n ih =>
    intro v h
    have h : oM (fo (fun r a => oM a (c r)) n none) (c n) = some v := h
    rcases oM_some h with q | q
    · obtain ⟨r, h1, h2⟩ := ih q
      exact ⟨r, by omega, h2⟩
    · exact ⟨n, by omega, q⟩
theorem lgV_le (m : Nat → Int32) : ∀ (l : List Nat) (t v : Nat), lgV m l t = some v → v ≤ l.length := by
  intro l
  induction l with
  | nil => intro t v h; injection h with h; omega
  | cons g l ih =>
    intro t v h
    obtain ⟨r, -, h2⟩ := fo_oM (c := lgC m (lgV m l) g t) h
    unfold lgC at h2
    split at h2
    · cases hv : lgV m l (tkS t r) with
      | none => rw [hv] at h2; exact nomatch h2
      | some x =>
        rw [hv] at h2
        have h3 := ih _ _ hv
        have h4 : x + (if sRm m g = r then 0 else 1) = v := Option.some.inj h2
        have h5 : (if sRm m g = r then 0 else 1) ≤ 1 := by split <;> omega
        rw [List.length_cons]
        omega
    · exact nomatch h2
/-- the first room by which it is so -/
theorem fst_r {P : Nat → Bool} : ∀ {n r : Nat}, r < n → P r = true → ∃ r0, r0 < n ∧ P r0 = true ∧ ∀ r, r < r0 → P r = false := by
  intro n r
  induction r using Nat.strongRecOn with
  | ind r ih =>
    intro hr hp
    by_cases h : ∃ s, s < r ∧ P s = true
    · obtain ⟨s, h1, h2⟩ := h
      exact ih s h1 (by omega) h2
    · refine ⟨r, hr, hp, fun s hs => ?_⟩
      cases hb : P s
      · rfl
      · exact absurd ⟨s, hs, hb⟩ h
/-- guests who are here, the last so many looked at -/
def hLc (m : Nat → Int32) : Nat → List Nat
  | 0 => []
  | c + 1 => if sHere m (gN m - (c + 1)) = true then (gN m - (c + 1)) :: hLc m c else hLc m c
def hLg (m : Nat → Int32) (g : Nat) : List Nat := hLc m (gN m - g)
theorem hLg_G (m : Nat → Int32) {g : Nat} (h : gN m ≤ g) : hLg m g = [] := by
  unfold hLg
  rw [show gN m - g = 0 by omega]
  rfl
theorem hLg_s (m : Nat → Int32) {g : Nat} (h : g < gN m) : hLg m g = if sHere m g = true then g :: hLg m (g + 1) else hLg m (g + 1) := by
  unfold hLg
  rw [show gN m - g = (gN m - (g + 1)) + 1 by omega, hLc, show gN m - (gN m - (g + 1) + 1) = g by omega]
theorem hLc_len (m : Nat → Int32) : ∀ c, (hLc m c).length ≤ c := by
  intro c
  induction c with
  | zero => exact Nat.le_refl _
  | succ c ih =>
    rw [hLc]
    split
    · rw [List.length_cons]; omega
    · omega
theorem hLg_len (m : Nat → Int32) (g : Nat) : (hLg m g).length ≤ gN m := Nat.le_trans (hLc_len m _) (by omega)
theorem hLc_mem (m : Nat → Int32) : ∀ c, ∀ g ∈ hLc m c, c ≤ gN m → g < gN m := by
  intro c
  induction c with
  | zero => intro g h; exact nomatch h
  | succ c ih =>
    intro g h hc
    rw [hLc] at h
    split at h
    · rcases List.mem_cons.mp h with q | q
      · omega
      · exact ih g q (by omega)
    · exact ih g h (by omega)
theorem shl8 : ∀ a, a < 10 → nI a <<< (nI 8 &&& nI 31) = nI (256 * a) := by decide +kernel
theorem c_at (slo : Lo) {a b : Nat} (ha : a < 10) : fX5_at slo (nI a) (nI b) = some (nI (256 * a + b)) := by
  unfold fX5_at
  simp only [li0, li1, li2, li3, li4, li5, li6, li7, li8, li9, li10, li11, li12, li13, li14, li15, li16, li20, li24, li26, li30, li31, li32, li40, li41, li43, li48, li50, li52, li57, li59, li60, li62, li64, li65, li66, li67, li97, li99, li100, li122, li236, li239, li240, li255, li254, li256, li304, li400, li703, li704, li999, li1000000, li2000000000, li3344, li3648, li9999, li10000, li32767, lm1]
  rw [shl8 _ ha, nI_add]
theorem one_e (r : Nat) : nI 1 <<< (nI r &&& nI 31) = one r := rfl
/-! the component's numbers -/
def cE (o : Option Nat) : Int32 := match o with
  | none => nI 1000000
  | some v => nI v
theorem cE_le {o : Option Nat} (h : ∀ v, o = some v → v ≤ 1000000) : ∃ j, j ≤ 1000000 ∧ cE o = nI j := by
  cases o with
  | none => exact ⟨1000000, Nat.le_refl _, rfl⟩
  | some v => exact ⟨v, h v rfl, rfl⟩
theorem cE_min {a b : Option Nat} (ha : ∀ v, a = some v → v ≤ 1000) (hb : ∀ v, b = some v → v ≤ 1000) (d : Nat) (hd : d ≤ 1) : zmn (cE a) (cE b + nI d) = cE (oM a (b.map (fun x => x + d))) := by
  cases a with
  | none =>
    cases b with
    | none =>
      show zmn (nI 1000000) (nI 1000000 + nI d) = nI 1000000
      rw [nI_add, zmnN (by omega) (by omega), show min 1000000 (1000000 + d) = 1000000 by omega]
    | some y =>
      have := hb y rfl
      show zmn (nI 1000000) (nI y + nI d) = nI (y + d)
      rw [nI_add, zmnN (by omega) (by omega), show min 1000000 (y + d) = y + d by omega]
  | some x =>
    have := ha x rfl
    cases b with
    | none =>
      show zmn (nI x) (nI 1000000 + nI d) = nI x
      rw [nI_add, zmnN (by omega) (by omega), show min x (1000000 + d) = x by omega]
    | some y =>
      have := hb y rfl
      show zmn (nI x) (nI y + nI d) = nI (min x (y + d))
      rw [nI_add, zmnN (by omega) (by omega)]
def rE (o : Option Nat) : Int32 := match o with
  | none => nI 2000000000
  | some v => nI v
theorem rE_min {a b : Option Nat} (ha : ∀ v, a = some v → v ≤ 1000) (hb : ∀ v, b = some v → v ≤ 1000) : zmn (rE a) (rE b) = rE (oM a b) := by
  cases a with
  | none =>
    cases b with
    | none => exact (zmnN (by omega) (by omega)).trans rfl
    | some y =>
      have := hb y rfl
      show zmn (nI 2000000000) (nI y) = nI y
      rw [zmnN (by omega) (by omega), show min 2000000000 y = y by omega]
  | some x =>
    have := ha x rfl
    cases b with
    | none =>
      show zmn (nI x) (nI 2000000000) = nI x
      rw [zmnN (by omega) (by omega), show min x 2000000000 = x by omega]
    | some y =>
      have := hb y rfl
      exact zmnN (by omega) (by omega)
theorem lgC_le (m : Nat → Int32) {l : List Nat} (hl : l.length ≤ 8) (g t r v : Nat) (h2 : lgC m (lgV m l) g t r = some v) : v ≤ 1000 := by
  unfold lgC at h2
  split at h2
  · cases hv : lgV m l (tkS t r) with
    | none => rw [hv] at h2; exact nomatch h2
    | some x =>
      rw [hv] at h2
      have h3 := lgV_le m _ _ _ hv
      have h4 : x + (if sRm m g = r then 0 else 1) = v := Option.some.inj h2
      have h5 : (if sRm m g = r then 0 else 1) ≤ 1 := by split <;> omega
      omega
  · exact nomatch h2
theorem foC_le (m : Nat → Int32) {l : List Nat} (hl : l.length ≤ 8) (g t : Nat) : ∀ n v, fo (fun r a => oM a (lgC m (lgV m l) g t r)) n none = some v → v ≤ 1000 := by
  intro n v h
  obtain ⟨r, -, h2⟩ := fo_oM (c := lgC m (lgV m l) g t) h
  unfold lgC at h2
  split at h2
  · cases hv : lgV m l (tkS t r) with
    | none => rw [hv] at h2; exact nomatch h2
    | some x =>
      rw [hv] at h2
      have h3 := lgV_le m _ _ _ hv
      have h4 : x + (if sRm m g = r then 0 else 1) = v := Option.some.inj h2
      have h5 : (if sRm m g = r then 0 else 1) ≤ 1 := by split <;> omega
      omega
  · exact nomatch h2
section LODGEC
variable {w : Wd} {m : Nat → Int32}
/-- a row of the component's table is right -/
def cRw (m : Nat → Int32) (slo : Nat → Int32) (g : Nat) : Prop := ∀ t, t < 256 → slo (256 * g + t) = cE (lgV m (hLg m g) t)
theorem c_can (h : RW w m) (hI : Inv m) (slo : Lo) (sh : Kp) {g t r : Nat} (hg : g < 8) (ht : t < 256) (hr : r < 8) : fX5_can slo sh w (nI g) (nI t) (nI r) = some (!bt (nI t) r && !sFrom m r (sKey m g) (m 4).toNatClampNeg) := by
  obtain ⟨hb, hb7⟩ := (hI 4 7 rfl).cl (by omega)
  unfold fX5_can
  rw [c_has _ (by omega), mob_sm]
  cases bt (nI t) r
  · rw [if_neg (by decide), mckN _ hg (by omega), clN (by omega), h.key hg, c_spies h hr, mob_sm, h.bath, hb, c_has _ (by omega), mob_sm, bt_spies m hr (by omega), ← hb]
    cases sFrom m r (sKey m g) (m 4).toNatClampNeg <;> rfl
  · rfl
theorem c_by (h : RW w m) (hI : Inv m) {slo : Lo} (sh : Kp) {g t r : Nat} (hg : g < 8) (ht : t < 256) (hr : r < 8) (hR : cRw m slo (g + 1)) : fX5_by slo sh w (nI g) (nI t) (nI r) = some (cE (lgV m (hLg m (g + 1)) (tkS t r)) + nI (if sRm m g = r then 0 else 1)) := by
  obtain ⟨k1, k2⟩ := tkS_ok t ht r hr
  obtain ⟨q1, q2⟩ := hI.rm hg
  unfold fX5_by
  simp only [li0, li1, li2, li3, li4, li5, li6, li7, li8, li9, li10, li11, li12, li13, li14, li15, li16, li20, li24, li26, li30, li31, li32, li40, li41, li43, li48, li50, li52, li57, li59, li60, li62, li64, li65, li66, li67, li97, li99, li100, li122, li236, li239, li240, li255, li254, li256, li304, li400, li703, li704, li999, li1000000, li2000000000, li3344, li3648, li9999, li10000, li32767, lm1]
  rw [nI_add, one_e, k1, c_at _ (by omega), mob_sm, mckN _ (by omega) (by omega), mckN _ hg (by omega), clN (by omega), clN (by omega), h.room hg, q1]
  have e := hR _ k2
  show (if nI (sRm m g) = nI r then some (slo (256 * (g + 1) + tkS t r) + nI 0) else some (slo (256 * (g + 1) + tkS t r) + nI 1)) = _
  rw [e]
  by_cases y : sRm m g = r
  · rw [if_pos ((nI_eq (by omega) (by omega)).mpr y), if_pos y]
  · rw [if_neg (fun z => y ((nI_eq (by omega) (by omega)).mp z)), if_neg y]
theorem c_best (h : RW w m) (hI : Inv m) {slo : Lo} (sh : Kp) {g t : Nat} (hg : g < gN m) (ht : t < 256) (hR : cRw m slo (g + 1)) : fX5_best slo sh w (nI g) (nI t) = some (cE (lgV m (hLg m g) t)) := by
  obtain ⟨hG, hG8⟩ := hI.G
  have hg8 : g < 8 := by omega
  have hl8 : (hLg m (g + 1)).length ≤ 8 := Nat.le_trans (hLg_len m _) hG8
  unfold fX5_best
  simp only [li0, li1, li2, li3, li4, li5, li6, li7, li8, li9, li10, li11, li12, li13, li14, li15, li16, li20, li24, li26, li30, li31, li32, li40, li41, li43, li48, li50, li52, li57, li59, li60, li62, li64, li65, li66, li67, li97, li99, li100, li122, li236, li239, li240, li255, li254, li256, li304, li400, li703, li704, li999, li1000000, li2000000000, li3344, li3648, li9999, li10000, li32767, lm1]
  rw [mckN _ hg8 (by omega), clN (by omega), h.here hg8, hLg_s m hg]
  cases sHere m g
  · rw [if_neg (by decide), if_neg (by decide)]
    rw [nI_add, c_at _ (by omega), mob_sm, mckN _ (by omega) (by omega), clN (by omega)]
    exact congrArg some (hR t ht)
  · rw [if_pos rfl, if_pos rfl, mjn_e]
    have hL := loop_c (fun n a i => fX5_best_L35 (fun (x3_4 : Int32) => some (zmn (nI 1000000) x3_4)) slo sh w (nI g) (nI t) n a i) (fun i => cE (fo (fun r a => oM a (lgC m (lgV m (hLg m (g + 1))) g t r)) i none)) (fun x => some (zmn (nI 1000000) x)) 8 ?_ ?_ (n := mFU) (by decide)
    · refine hL.trans ?_
      show some (zmn (nI 1000000) (cE (lgV m (g :: hLg m (g + 1)) t))) = _
      obtain ⟨j, hj, ej⟩ := cE_le (o := lgV m (g :: hLg m (g + 1)) t) (fun v hv => by have := lgV_le m _ _ _ hv; rw [List.length_cons] at this; omega)
      rw [ej, zmnN (by omega) (by omega), show min 1000000 j = j by omega]
    · intro n
      simp only [fX5_best_L35, li0, li1, li2, li3, li4, li5, li6, li7, li8, li9, li10, li11, li12, li13, li14, li15, li16, li20, li24, li26, li30, li31, li32, li40, li41, li43, li48, li50, li52, li57, li59, li60, li62, li64, li65, li66, li67, li97, li99, li100, li122, li236, li239, li240, li255, li254, li256, li304, li400, li703, li704, li999, li1000000, li2000000000, li3344, li3648, li9999, li10000, li32767, lm1]
      rw [if_pos (Int32.le_refl _)]
    · intro n r hr
      simp only [fX5_best_L35, li0, li1, li2, li3, li4, li5, li6, li7, li8, li9, li10, li11, li12, li13, li14, li15, li16, li20, li24, li26, li30, li31, li32, li40, li41, li43, li48, li50, li52, li57, li59, li60, li62, li64, li65, li66, li67, li97, li99, li100, li122, li236, li239, li240, li255, li254, li256, li304, li400, li703, li704, li999, li1000000, li2000000000, li3344, li3648, li9999, li10000, li32767, lm1]
      rw [if_neg (nI_ge hr (by omega)), c_can h hI slo sh hg8 ht hr, mob_sm, c_by h hI sh hg8 ht hr hR, mob_sm, nI_add]
      show (if (!bt (nI t) r && !sFrom m r (sKey m g) (m 4).toNatClampNeg) = true then _ else _) = fX5_best_L35 _ slo sh w (nI g) (nI t) n (cE (oM (fo (fun r a => oM a (lgC m (lgV m (hLg m (g + 1))) g t r)) r none) (lgC m (lgV m (hLg m (g + 1))) g t r))) (nI (r + 1))
      by_cases q : (!bt (nI t) r && !sFrom m r (sKey m g) (m 4).toNatClampNeg) = true
      · rw [if_pos q]
        have e1 : lgC m (lgV m (hLg m (g + 1))) g t r = (lgV m (hLg m (g + 1)) (tkS t r)).map (fun x => x + (if sRm m g = r then 0 else 1)) := by unfold lgC; rw [if_pos q]
        rw [e1, ← cE_min (foC_le m hl8 g t r) (fun v hv => by have := lgV_le m _ _ _ hv; omega) _ (by split <;> omega)]
      · rw [if_neg q]
        have e1 : lgC m (lgV m (hLg m (g + 1))) g t r = none := by unfold lgC; rw [if_neg q]
        have e2 : ∀ a, oM a none = a := fun a => by cases a <;> rfl
        rw [e1, e2]
theorem c_isRow (h : RW w m) (hI : Inv m) (slo : Lo) (sh : Kp) (K : Lo → Option Lo) {g : Nat} (hg : g < gN m) (hR : cRw m slo (g + 1)) : fX5_is_L55 K (nI g) sh w mFU (nI 0) slo = K (cpf slo (256 * g) (fun t => cE (lgV m (hLg m g) t)) 256) := by
  obtain ⟨hG, hG8⟩ := hI.G
  have hL := loop_c (fun n a i => fX5_is_L55 K (nI g) sh w n i a) (fun j => cpf slo (256 * g) (fun t => cE (lgV m (hLg m g) t)) j) K 256 ?_ ?_ (n := mFU) (by decide)
  · rw [cpf_0] at hL
    exact hL
  · intro n
    simp only [fX5_is_L55, li0, li1, li2, li3, li4, li5, li6, li7, li8, li9, li10, li11, li12, li13, li14, li15, li16, li20, li24, li26, li30, li31, li32, li40, li41, li43, li48, li50, li52, li57, li59, li60, li62, li64, li65, li66, li67, li97, li99, li100, li122, li236, li239, li240, li255, li254, li256, li304, li400, li703, li704, li999, li1000000, li2000000000, li3344, li3648, li9999, li10000, li32767, lm1]
    rw [if_pos (by decide +kernel)]
  · intro n t ht
    simp only [fX5_is_L55, li0, li1, li2, li3, li4, li5, li6, li7, li8, li9, li10, li11, li12, li13, li14, li15, li16, li20, li24, li26, li30, li31, li32, li40, li41, li43, li48, li50, li52, li57, li59, li60, li62, li64, li65, li66, li67, li97, li99, li100, li122, li236, li239, li240, li255, li254, li256, li304, li400, li703, li704, li999, li1000000, li2000000000, li3344, li3648, li9999, li10000, li32767, lm1]
    have hR2 : cRw m (cpf slo (256 * g) (fun t => cE (lgV m (hLg m g) t)) t) (g + 1) := fun t' ht' => by
      rw [cpf_out (Or.inr (by omega))]
      exact hR t' ht'
    rw [if_neg (fun q => absurd ((nI_ltI (by omega) (by omega)).mp q) (by omega))]
    rw [c_at _ (by omega), mob_sm, c_best h hI sh hg ht hR2, mob_sm, mckN _ (by omega) (by omega), clN (by omega), mlt_e, nI_add, ← cpf_s]
    rfl
theorem c_isDown (h : RW w m) (hI : Inv m) (sh : Kp) (K : Lo → Option Lo) : ∀ (g n : Nat) (slo : Lo), g ≤ gN m → g < n → (∀ g', g ≤ g' → g' ≤ gN m → cRw m slo g') → ∃ slo' : Lo, fX5_is_L49 K sh w n (nI g + nM) slo = K slo' ∧ ∀ g', g' ≤ gN m → cRw m slo' g' := by
  obtain ⟨hG, hG8⟩ := hI.G
  intro g
  induction g with
  | zero =>
    intro n slo _ hn hR
    obtain ⟨n, rfl⟩ : ∃ n', n = n' + 1 := ⟨n - 1, by omega⟩
    refine ⟨slo, ?_, fun g' => hR g' (Nat.zero_le _)⟩
    simp only [fX5_is_L49, li0, li1, li2, li3, li4, li5, li6, li7, li8, li9, li10, li11, li12, li13, li14, li15, li16, li20, li24, li26, li30, li31, li32, li40, li41, li43, li48, li50, li52, li57, li59, li60, li62, li64, li65, li66, li67, li97, li99, li100, li122, li236, li239, li240, li255, li254, li256, li304, li400, li703, li704, li999, li1000000, li2000000000, li3344, li3648, li9999, li10000, li32767, lm1]
    rw [if_pos (by decide +kernel)]
  | succ g ih =>
    intro n slo hg hn hR
    obtain ⟨n, rfl⟩ : ∃ n', n = n' + 1 := ⟨n - 1, by omega⟩
    obtain ⟨slo', e1, e2⟩ := ih n (cpf slo (256 * g) (fun t => cE (lgV m (hLg m g) t)) 256) (by omega) (by omega) (by
      intro g' h1 h2 t ht
      rcases Nat.lt_or_ge g g' with q | q
      · rw [cpf_out (Or.inr (by omega))]
        exact hR g' (by omega) h2 t ht
      · have : g' = g := by omega
        subst this
        rw [cpf_in ht])
    refine ⟨slo', ?_, e2⟩
    simp only [fX5_is_L49, li0, li1, li2, li3, li4, li5, li6, li7, li8, li9, li10, li11, li12, li13, li14, li15, li16, li20, li24, li26, li30, li31, li32, li40, li41, li43, li48, li50, li52, li57, li59, li60, li62, li64, li65, li66, li67, li97, li99, li100, li122, li236, li239, li240, li255, li254, li256, li304, li400, li703, li704, li999, li1000000, li2000000000, li3344, li3648, li9999, li10000, li32767, lm1]
    rw [nM_pred, if_neg (nI_nlt (Nat.zero_le g) (by omega)), mjn_e, c_isRow h hI slo sh _ (by omega) (hR (g + 1) (Nat.le_refl _) (by omega))]
    exact e1
theorem c_is (h : RW w m) (hI : Inv m) (slo : Lo) (sh : Kp) : ∃ slo' : Lo, fX5_is slo sh w = some slo' ∧ ∀ g', g' ≤ gN m → cRw m slo' g' := by
  obtain ⟨hG, hG8⟩ := hI.G
  obtain ⟨slo', e1, e2⟩ := c_isDown h hI sh some (gN m) mFU (cpf slo (256 * gN m) (fun _ => nI 0) 256) (Nat.le_refl _) (by unfold mFU; omega) (by
    intro g' h1 h2 t ht
    have : g' = gN m := by omega
    subst this
    rw [cpf_in ht, hLg_G m (Nat.le_refl _)]
    rfl)
  refine ⟨slo', ?_, e2⟩
  unfold fX5_is
  simp only [li0, li1, li2, li3, li4, li5, li6, li7, li8, li9, li10, li11, li12, li13, li14, li15, li16, li20, li24, li26, li30, li31, li32, li40, li41, li43, li48, li50, li52, li57, li59, li60, li62, li64, li65, li66, li67, li97, li99, li100, li122, li236, li239, li240, li255, li254, li256, li304, li400, li703, li704, li999, li1000000, li2000000000, li3344, li3648, li9999, li10000, li32767, lm1, mjn_e]
  have hL := loop_c (fun n a i => fX5_is_L2 (fun slo_2 => fX5_is_L49 (fun slo_5 => some slo_5) sh w mFU ((wd_guests w) - nI 1) slo_2) w n i a) (fun j => cpf slo (256 * gN m) (fun _ => nI 0) j) (fun slo_2 => fX5_is_L49 (fun slo_5 => some slo_5) sh w mFU ((wd_guests w) - nI 1) slo_2) 256 ?_ ?_ (n := mFU) (by decide)
  · rw [cpf_0] at hL
    refine hL.trans ?_
    rw [h.guests, hG, show nI (gN m) - nI 1 = nI (gN m) + nM from by rw [Int32.sub_eq_add_neg]; rfl]
    exact e1
  · intro n
    simp only [fX5_is_L2, li0, li1, li2, li3, li4, li5, li6, li7, li8, li9, li10, li11, li12, li13, li14, li15, li16, li20, li24, li26, li30, li31, li32, li40, li41, li43, li48, li50, li52, li57, li59, li60, li62, li64, li65, li66, li67, li97, li99, li100, li122, li236, li239, li240, li255, li254, li256, li304, li400, li703, li704, li999, li1000000, li2000000000, li3344, li3648, li9999, li10000, li32767, lm1]
    rw [if_pos (by decide +kernel)]
  · intro n t ht
    simp only [fX5_is_L2, li0, li1, li2, li3, li4, li5, li6, li7, li8, li9, li10, li11, li12, li13, li14, li15, li16, li20, li24, li26, li30, li31, li32, li40, li41, li43, li48, li50, li52, li57, li59, li60, li62, li64, li65, li66, li67, li97, li99, li100, li122, li236, li239, li240, li255, li254, li256, li304, li400, li703, li704, li999, li1000000, li2000000000, li3344, li3648, li9999, li10000, li32767, lm1]
    rw [if_neg (fun q => absurd ((nI_ltI (by omega) (by omega)).mp q) (by omega))]
    rw [h.guests, hG, c_at _ (by omega), mob_sm, mckN _ (by omega) (by omega), clN (by omega), mlt_e, nI_add]
    have e := cpf_s slo (256 * gN m) (fun _ => nI 0) t
    rw [← e]
    rfl
end LODGEC
