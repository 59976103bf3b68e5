/-! THE LAW's TEXT, whole -/
theorem LC.head {k : Nat → ClassId} {e0 q : Nat} {els : List Nat} {xs w : va_W} (h : LC k e0 q els xs w) : ∃ (e : Nat) (mc : Int32) (r : va_W), w = lsO q e mc els.length :: r := by
  rcases h with ⟨rfl, mc, rfl⟩ | ⟨e, cap, mc, h1, h2, h3, rfl⟩
  · exact ⟨e0, mc, _, rfl⟩
  · exact ⟨e, mc, _, rfl⟩
noncomputable def gOn (sh : Kp) (srd : Rd) : Option ((String × Rd) ⊕ (Bool × Rd)) := mox (fX1_goesOn sh srd) (fun E => mtk 0 srd E.2 <| some (.inl E)) fun z => mtk (if z.1 = true then 1 else 0) srd z.2 <| some (.inr z)
theorem gOn_s {sh : Kp} {srd : Rd} {o : (String × Rd) ⊕ (Bool × Rd)} (h : gOn sh srd = some o) : fX1_goesOn sh srd = some o ∧ (∀ E, o = .inl E → rA srd ≤ rA E.2 ∧ rA E.2 ≤ 400) ∧ ∀ z, o = .inr z → rA srd + (if z.1 = true then 1 else 0) ≤ rA z.2 ∧ rA z.2 ≤ 400 := by
  unfold gOn at h
  obtain ⟨o1, h1, h⟩ := mox_s rfl h
  cases o1 with
  | inl E =>
    have h := moxl h
    obtain ⟨h3, h⟩ := mtk_s rfl h
    cases h
    exact ⟨h1, fun E' e => by cases e; exact h3, fun q e => nomatch e⟩
  | inr q =>
    have h := moxr h
    obtain ⟨h3, h⟩ := mtk_s rfl h
    cases h
    exact ⟨h1, fun q e => (nomatch e), fun E' e => by cases e; exact h3⟩
noncomputable def gNo (sh : Kp) (srd : Rd) : Option (String × Rd) := mox (fX1_noMore sh srd (nI 12) (12 : Int32)) (fun E => mtk 0 srd E.2 <| some E) fun _ => none
theorem gNo_s {sh : Kp} {srd : Rd} {E : String × Rd} (h : gNo sh srd = some E) : fX1_noMore sh srd (nI 12) (12 : Int32) = some (.inl E) ∧ rA srd ≤ rA E.2 ∧ rA E.2 ≤ 400 := by
  unfold gNo at h
  obtain ⟨o1, h1, h⟩ := mox_s rfl h
  cases o1 with
  | inl E =>
    have h := moxl h
    obtain ⟨h3, h⟩ := mtk_s rfl h
    cases h
    exact ⟨h1, h3⟩
  | inr q =>
    have h := moxr h
    exact nomatch h
abbrev txO : Type := (String × Rd) ⊕ (List (Sc → Int32) × Rd)
noncomputable def fX1_textL (sh : Kp) : Nat → Rd → List (Sc → Int32) → Option txO
  | 0, s, _ => mob (gNo sh s) fun E => some (.inl E)
  | j + 1, s, gs => mox (fX1_lawLine s) (fun E => some (.inl E)) fun q => mox (gOn sh q.2) (fun E => some (.inl E)) fun z => if z.1 = true then fX1_textL sh j z.2 (gs ++ [q.1]) else some (.inr (gs ++ [q.1], z.2))
noncomputable def fX1_lawText (sh : Kp) (srd : Rd) : Option txO := mo2 (gOver srd) fun b s1 => if b = true then some (.inr ([], s1)) else fX1_textL sh 12 s1 []
theorem textL_m {sh : Kp} (hCm : ∀ (srd : Rd) (o : cnO), fX1_cond 6 srd = some o → rA srd ≤ rA (rdO o) ∧ rA (rdO o) ≤ 400) : ∀ (j : Nat) (s : Rd) (gs : List (Sc → Int32)) (o : txO), fX1_textL sh j s gs = some o → rA s ≤ rA (rdO o) ∧ rA (rdO o) ≤ 400
  | 0, s, gs, o, h => by
    rw [fX1_textL.eq_1] at h
    obtain ⟨E, h1, h⟩ := mob_s rfl h
    cases h
    exact (gNo_s h1).2
  | j + 1, s, gs, o, h => by
    rw [fX1_textL.eq_2] at h
    obtain ⟨o1, h1, h⟩ := mox_s rfl h
    have hm := lawLine_m hCm h1
    cases o1 with
    | inl E =>
      have h := moxl h
      cases h
      exact hm
    | inr q =>
      have h := moxr h
      have hm : rA s ≤ rA q.2 ∧ rA q.2 ≤ 400 := hm
      obtain ⟨o2, h2, h⟩ := mox_s rfl h
      obtain ⟨-, h3, h4⟩ := gOn_s h2
      cases o2 with
      | inl E =>
        have h := moxl h
        cases h
        have := h3 _ rfl
        show rA s ≤ rA E.2 ∧ rA E.2 ≤ 400
        omega
      | inr z =>
        have h := moxr h
        have h5 := h4 _ rfl
        obtain ⟨b, s2⟩ := z
        cases b with
        | true =>
          have h6 := textL_m hCm j s2 _ o (mif_p rfl h)
          have h5 : rA q.2 + 1 ≤ rA s2 ∧ rA s2 ≤ 400 := h5
          omega
        | false =>
          have h := mif_n (by exact Bool.false_ne_true) h
          cases h
          have h5 : rA q.2 + 0 ≤ rA s2 ∧ rA s2 ≤ 400 := h5
          show rA s ≤ rA s2 ∧ rA s2 ≤ 400
          omega
theorem kX1_lawText {R : Room} {s : State} {args : Array Value} {own : String} {idx mc ms : Nat} {rm : Room} (hts : ∀ w ∈ lw_all, w.before args s = true) (hl : Cond.methodLink own idx yX1_lawText ∈ lw_all) (hrc : rm.cells = mc) (hrs : rm.slots = ms) (hR : rm.frames + 1 ≤ R.frames ∧ 8 + (2 + 11) + rm.locals ≤ R.locals) : CallW R s args own RX1 idx yX1_lawText cX1_lawText 2 (some (.object "SaturdayKeep$Law")) (ws_ yX1_lawText cX1_lawText 2 (some (.object "SaturdayKeep$Law"))) rm mc ms 0 :=
  cwV 0 hts (lw_V hl q1305 qs24 q107 q1306) rfl hrc hrs (by decide +kernel) hR
set_option maxRecDepth 100000 in
theorem mtX1_lawText (l : Launch) (D : va_G) (k : Nat → ClassId) (ah aw adr aim ard asc ath awl alo atr : Nat → Nat) (Z : zZ) (hOK6 : zOK D zCl (zTy6 k) Z) (hlt : l.stackTraces = false) (hTh : zTh Z) {adK adV : Nat → Nat} (hStr : zStr Z adK adV) (hPv : zPv Z) {e0 mi : Nat} (hLs : zLs Z e0 mi) {aF : Nat → Nat} {vq : Nat} (hVl : zVl k Z aF adK vq) (sh : Kp) (srd : Rd) (o : txO) (hrun : fX1_lawText sh srd = some o) : CtX l yX1_lawText cX1_lawText 2 (some (.object "SaturdayKeep$Law")) (rP 34 1170 14 1626 srd o) Z D zCl ((cH k ah aw adr aim ard asc ath awl alo atr sh) ++ (cR k ard srd)) [.ref (ah 0)] (fun r' w' => ∃ gs ord q np, o = .inr (gs, ord) ∧ r' = some (.ref q) ∧ lwAt k e0 aF np 15 q gs.length (sumV gs) ∧ w' = (((cH k ah aw adr aim ard asc ath awl alo atr sh) ++ (cR k ard ord)) ++ np)) (fun E' w' => ∃ ord, o = .inl (E', ord) ∧ w' = ((cH k ah aw adr aim ard asc ath awl alo atr sh) ++ (cR k ard ord))) (prc 50 14 srd o) (prc 5500 1626 srd o) := by
  have hOK := zOK6 hOK6
  have hCm := (mtX1_condC l D k ah aw adr aim ard asc ath awl alo atr Z hOK6 hlt hTh hStr hPv hLs hVl sh 6).1
  unfold fX1_lawText at hrun
  obtain ⟨b, s1, g1, hrun⟩ := mo2_s rfl hrun
  obtain ⟨g1, hA1⟩ := gOver_s g1
  cases b with
  | true =>
    have hrun := mif_p rfl hrun
    cases hrun
    refine CtX.of (by decide) (Nat.le_of_ble_eq_true rfl) ?_
    intro p e9 s m args below meth c A hE hnoh hA hP hD hS hz ls hl
    obtain ⟨hx, hb, hr, hml, hown, hts, hlocks, hname⟩ := hE
    have hown : s.vm.findClass RX1 = some m.cls := hown
    have hK := hOK.1 _ _ _ hz
    have hN := hOK.2.1 _ _ _ hz
    have hl : lv_has ls 2 [(0, .ref (ah 0))] := hl
    refine va_new (ci := 7) (fs := [.null]) (C := RX8) (T := TX8) (N := 1) hx hb hts in_X8 tyX8 tyX8_ok hown (hts _ q1307) (hts _ q1308) (hts _ q134) hK hP hD hS hA rfl (zdef 1 tyX8) (by simp only [rP, rLs, prc, rdO]; omega) (by simp only [rP, rLs, prc, rdO]; omega) dX1_lawText_0 (fun qs H hP hD hS => ?_)
    refine lv_dup hx hb dX1_lawText_3 rfl ?_
    have hP : va_P D zCl (((cH k ah aw adr aim ard asc ath awl alo atr sh) ++ (cR k ard srd)) ++ ([(qs, .inr (7, [.null]))] ++ [])) _ := hP
    have hD : va_D A (((cH k ah aw adr aim ard asc ath awl alo atr sh) ++ (cR k ard srd)) ++ ([(qs, .inr (7, [.null]))] ++ [])) := hD
    refine cWIN ((cH k ah aw adr aim ard asc ath awl alo atr sh) ++ (cR k ard srd)) [(qs, .inr (7, [.null]))] [] (As := []) ⟨hx, hb, hml, hown, hts⟩ hOK hz hS hA hP hD (mtX8_init l D k Z hOK hLs qs) (kX8_initn hN hts (hN _ (zN_of q1309 rfl)) rfl rfl ⟨Nat.le_of_ble_eq_true rfl, Nat.le_of_ble_eq_true rfl⟩) rfl hl.1 rfl (lv_room (Nat.le_of_ble_eq_true rfl)) ⟨(by simp only [rP, rLs, prc, rdO]; omega), (by simp only [rP, rLs, prc, rdO]; omega)⟩ dX1_lawText_4 (fun r_ w_ H locs hq hP hD hS => ?_)
    obtain ⟨ql, rfl, rfl⟩ := hq
    have hP : va_P D zCl ((cH k ah aw adr aim ard asc ath awl alo atr sh) ++ ((cR k ard srd) ++ ([(qs, .inr (7, [.ref ql]))] ++ [lsO ql e0 0 0]))) _ := hP
    have hD : va_D A ((cH k ah aw adr aim ard asc ath awl alo atr sh) ++ ((cR k ard srd) ++ ([(qs, .inr (7, [.ref ql]))] ++ [lsO ql e0 0 0]))) := hD
    refine lv_astore_n (lv' := [(1, .ref qs), (0, .ref (ah 0))]) hx hb dX1_lawText_7 rfl hl (by decide) rfl (fun ls hl => ?_)
    refine lv_aload_n hx hb dX1_lawText_8 rfl (lv_at hl 1 rfl) ?_
    refine va_get (ci := 1) (v := .ref (ard 0)) (C := RX1) (T := TX1) (N := 10) hx hb hts in_X1 hown hK hP 0 rfl rfl 4 (by decide) (hts _ q375) (fun _ h9 => h9) rfl dX1_lawText_9 ?_
    have hP : va_P D zCl ((cH k ah aw adr aim ard asc ath awl alo atr sh) ++ ((cR k ard srd) ++ ([(qs, .inr (7, [.ref ql]))] ++ [lsO ql e0 0 0]))) _ := hP
    have hD : va_D A ((cH k ah aw adr aim ard asc ath awl alo atr sh) ++ ((cR k ard srd) ++ ([(qs, .inr (7, [.ref ql]))] ++ [lsO ql e0 0 0]))) := hD
    refine cWV (cH k ah aw adr aim ard asc ath awl alo atr sh) (cR k ard srd) ([(qs, .inr (7, [.ref ql]))] ++ [lsO ql e0 0 0]) (As := []) (ci := 3) ⟨hx, hb, hml, hown, hts⟩ hOK hz hS hA hP hD (mtX3_isOver l D k ard Z hOK srd _ s1 g1) (kX3_isOver hts q767 rfl rfl ⟨Nat.le_of_ble_eq_true rfl, Nat.le_of_ble_eq_true rfl⟩) 0 rfl rfl rfl hl.1 rfl (lv_room (Nat.le_of_ble_eq_true rfl)) ⟨(by simp only [rP, rLs, prc, rdO]; omega), (by simp only [rP, rLs, prc, rdO]; omega)⟩ dX1_lawText_12 (fun r_ w_ H locs hq hP hD hS => ?_)
    obtain ⟨rfl, rfl⟩ := hq
    have hP : va_P D zCl ((cH k ah aw adr aim ard asc ath awl alo atr sh) ++ ((cR k ard s1) ++ ([(qs, .inr (7, [.ref ql]))] ++ [lsO ql e0 0 0]))) _ := hP
    have hD : va_D A ((cH k ah aw adr aim ard asc ath awl alo atr sh) ++ ((cR k ard s1) ++ ([(qs, .inr (7, [.ref ql]))] ++ [lsO ql e0 0 0]))) := hD
    refine lv_if_eq (tgt := 20) hx hb dX1_lawText_15 (by decide) (fun c1 => absurd c1 (by decide)) (fun _ => ?_)
    refine lv_aload_n hx hb dX1_lawText_18 rfl (lv_at hl 0 rfl) ?_
    have hP : va_P D zCl (((cH k ah aw adr aim ard asc ath awl alo atr sh) ++ (cR k ard s1)) ++ ([(qs, .inr (7, [.ref ql]))] ++ [lsO ql e0 0 0])) _ := hP
    have hD : va_D A (((cH k ah aw adr aim ard asc ath awl alo atr sh) ++ (cR k ard s1)) ++ ([(qs, .inr (7, [.ref ql]))] ++ [lsO ql e0 0 0])) := hD
    refine widX (by simp only [prc, rdO]; omega) (by simp only [prc, rdO]; omega) ?_
    exact vx_ret (retW_a hx hb hr (Or.inl ⟨_, rfl⟩) hlocks hP hD hS ⟨[], _, qs, _, rfl, rfl, ⟨ql, [], [], List.mem_append_left _ (List.mem_singleton.mpr rfl), Or.inl ⟨rfl, 0, List.mem_append_right _ (List.mem_singleton.mpr rfl)⟩, rfl, pw.nil, rfl⟩, rfl⟩ dX1_lawText_19)
  | false =>
    have hrun := mif_n (by decide) hrun
    have hmo9 := textL_m hCm _ _ _ _ hrun
    refine CtX.of (by decide) (Nat.le_of_ble_eq_true rfl) ?_
    intro p e9 s m args below meth c A hE hnoh hA hP hD hS hz ls hl
    obtain ⟨hx, hb, hr, hml, hown, hts, hlocks, hname⟩ := hE
    have hown : s.vm.findClass RX1 = some m.cls := hown
    have hK := hOK.1 _ _ _ hz
    have hN := hOK.2.1 _ _ _ hz
    have hl : lv_has ls 2 [(0, .ref (ah 0))] := hl
    refine va_new (ci := 7) (fs := [.null]) (C := RX8) (T := TX8) (N := 1) hx hb hts in_X8 tyX8 tyX8_ok hown (hts _ q1307) (hts _ q1308) (hts _ q134) hK hP hD hS hA rfl (zdef 1 tyX8) (by simp only [rP, rLs, prc, rdO]; omega) (by simp only [rP, rLs, prc, rdO]; omega) dX1_lawText_0 (fun qs H hP hD hS => ?_)
    refine lv_dup hx hb dX1_lawText_3 rfl ?_
    have hP : va_P D zCl (((cH k ah aw adr aim ard asc ath awl alo atr sh) ++ (cR k ard srd)) ++ ([(qs, .inr (7, [.null]))] ++ [])) _ := hP
    have hD : va_D A (((cH k ah aw adr aim ard asc ath awl alo atr sh) ++ (cR k ard srd)) ++ ([(qs, .inr (7, [.null]))] ++ [])) := hD
    refine cWIN ((cH k ah aw adr aim ard asc ath awl alo atr sh) ++ (cR k ard srd)) [(qs, .inr (7, [.null]))] [] (As := []) ⟨hx, hb, hml, hown, hts⟩ hOK hz hS hA hP hD (mtX8_init l D k Z hOK hLs qs) (kX8_initn hN hts (hN _ (zN_of q1309 rfl)) rfl rfl ⟨Nat.le_of_ble_eq_true rfl, Nat.le_of_ble_eq_true rfl⟩) rfl hl.1 rfl (lv_room (Nat.le_of_ble_eq_true rfl)) ⟨(by simp only [rP, rLs, prc, rdO]; omega), (by simp only [rP, rLs, prc, rdO]; omega)⟩ dX1_lawText_4 (fun r_ w_ H locs hq hP hD hS => ?_)
    obtain ⟨ql, rfl, rfl⟩ := hq
    have hP : va_P D zCl ((cH k ah aw adr aim ard asc ath awl alo atr sh) ++ ((cR k ard srd) ++ ([(qs, .inr (7, [.ref ql]))] ++ [lsO ql e0 0 0]))) _ := hP
    have hD : va_D A ((cH k ah aw adr aim ard asc ath awl alo atr sh) ++ ((cR k ard srd) ++ ([(qs, .inr (7, [.ref ql]))] ++ [lsO ql e0 0 0]))) := hD
    refine lv_astore_n (lv' := [(1, .ref qs), (0, .ref (ah 0))]) hx hb dX1_lawText_7 rfl hl (by decide) rfl (fun ls hl => ?_)
    refine lv_aload_n hx hb dX1_lawText_8 rfl (lv_at hl 1 rfl) ?_
    refine va_get (ci := 1) (v := .ref (ard 0)) (C := RX1) (T := TX1) (N := 10) hx hb hts in_X1 hown hK hP 0 rfl rfl 4 (by decide) (hts _ q375) (fun _ h9 => h9) rfl dX1_lawText_9 ?_
    have hP : va_P D zCl ((cH k ah aw adr aim ard asc ath awl alo atr sh) ++ ((cR k ard srd) ++ ([(qs, .inr (7, [.ref ql]))] ++ [lsO ql e0 0 0]))) _ := hP
    have hD : va_D A ((cH k ah aw adr aim ard asc ath awl alo atr sh) ++ ((cR k ard srd) ++ ([(qs, .inr (7, [.ref ql]))] ++ [lsO ql e0 0 0]))) := hD
    refine cWV (cH k ah aw adr aim ard asc ath awl alo atr sh) (cR k ard srd) ([(qs, .inr (7, [.ref ql]))] ++ [lsO ql e0 0 0]) (As := []) (ci := 3) ⟨hx, hb, hml, hown, hts⟩ hOK hz hS hA hP hD (mtX3_isOver l D k ard Z hOK srd _ s1 g1) (kX3_isOver hts q767 rfl rfl ⟨Nat.le_of_ble_eq_true rfl, Nat.le_of_ble_eq_true rfl⟩) 0 rfl rfl rfl hl.1 rfl (lv_room (Nat.le_of_ble_eq_true rfl)) ⟨(by simp only [rP, rLs, prc, rdO]; omega), (by simp only [rP, rLs, prc, rdO]; omega)⟩ dX1_lawText_12 (fun r_ w_ H locs hq hP hD hS => ?_)
    obtain ⟨rfl, rfl⟩ := hq
    have hP : va_P D zCl ((cH k ah aw adr aim ard asc ath awl alo atr sh) ++ ((cR k ard s1) ++ ([(qs, .inr (7, [.ref ql]))] ++ [lsO ql e0 0 0]))) _ := hP
    have hD : va_D A ((cH k ah aw adr aim ard asc ath awl alo atr sh) ++ ((cR k ard s1) ++ ([(qs, .inr (7, [.ref ql]))] ++ [lsO ql e0 0 0]))) := hD
    refine lv_if_eq (tgt := 20) hx hb dX1_lawText_15 (by decide) (fun _ => ?_) (fun c1 => absurd rfl c1)
    have key : ∀ (j : Nat) (st : Rd) (gs : List (Sc → Int32)) (els : List Nat) (xs ww : va_W) (V U : Nat), fX1_textL sh j st gs = some o → LC k e0 ql els xs ww → pw (lnAt k e0 aF xs 15) els gs → (∀ y ∈ els, elIn xs y) → els.length + j = 12 → rA srd ≤ rA st → (els = [] → V ≤ 2 + 50 * (rA st - rA srd) ∧ U ≤ 4 + 5500 * (rA st - rA srd)) → (els ≠ [] → V + 30 ≤ 2 + 50 * (rA st - rA srd) ∧ U + 1700 ≤ 4 + 5500 * (rA st - rA srd)) → ∀ (H : Heap) (locs : List Loc), va_P D zCl ((cH k ah aw adr aim ard asc ath awl alo atr sh) ++ ((cR k ard st) ++ ([(qs, .inr (7, [.ref ql]))] ++ ww))) H → va_D A ((cH k ah aw adr aim ard asc ath awl alo atr sh) ++ ((cR k ard st) ++ ([(qs, .inr (7, [.ref ql]))] ++ ww))) → va_S A s.heap H locs → ∀ ls : Array Slot, lv_has ls 2 [(1, .ref qs), (0, .ref (ah 0))] → W p l e9 (rP 34 1170 14 1626 srd o) s m args below meth c H locs V U (vx_MQ below (QWr (fun r' w' => ∃ gs ord q np, o = .inr (gs, ord) ∧ r' = some (.ref q) ∧ lwAt k e0 aF np 15 q gs.length (sumV gs) ∧ w' = (((cH k ah aw adr aim ard asc ath awl alo atr sh) ++ (cR k ard ord)) ++ np)) D zCl A) (QXr (fun E' w' => ∃ ord, o = .inl (E', ord) ∧ w' = ((cH k ah aw adr aim ard asc ath awl alo atr sh) ++ (cR k ard ord))) D zCl A) args s (prc 50 14 srd o) (prc 5500 1626 srd o) A) (F0 m 20 ls []) := by
      intro j
      induction j with
      | zero =>
        intro st gs els xs ww V U h2 hL hpw hel hlen hge hb0 hb1 H locs hP hD hS ls hl
        have hUV : V ≤ 2 + 50 * (rA st - rA srd) ∧ U ≤ 4 + 5500 * (rA st - rA srd) := by
          by_cases q : els = []
          · exact hb0 q
          · have := hb1 q; omega
        have hmo := textL_m hCm _ _ _ _ h2
        obtain ⟨e1, mc1, r1, hw1⟩ := hL.head
        rw [fX1_textL.eq_1] at h2
        obtain ⟨E, h3, h2⟩ := mob_s rfl h2
        obtain ⟨h4, hA4⟩ := gNo_s h3
        cases h2
        have he12 : els.length = 12 := by omega
        have hne : els ≠ [] := fun q => by rw [q] at he12; exact absurd he12 (by decide)
        have hb2 := hb1 hne
        obtain ⟨E1, s2⟩ := E
        have hA4 : rA st ≤ rA s2 ∧ rA s2 ≤ 400 := hA4
        refine lv_aload_n hx hb dX1_lawText_20 rfl (lv_at hl 1 rfl) ?_
        refine lv_aload_n hx hb dX1_lawText_21 rfl (lv_at hl 0 rfl) ?_
        refine va_getN (ci := 7) (v := .ref ql) (C := RX8) (T := TX8) (N := 1) hx hb hts in_X8 hown hK hP 3 rfl rfl 0 (by decide) (va_Nw.use rfl (hN _ (zN_of q1316 rfl))) (fun _ h9 => h9) rfl dX1_lawText_22 ?_
        refine cRV (As := []) (ci := 15) ⟨hx, hb, hml, hown, hts⟩ hOK hz hS (show va_P D zCl [lsO ql e1 mc1 els.length] _ from hP.sub [4] (by rw [hw1]; rfl)) (mtJ2_size l D k Z hOK ql e1 mc1 els.length) (kJ2_size hts q714 rfl rfl ⟨Nat.le_of_ble_eq_true rfl, Nat.le_of_ble_eq_true rfl⟩) 0 rfl rfl rfl hl.1 rfl (lv_room (Nat.le_of_ble_eq_true rfl)) ⟨(by simp only [rP, rLs, prc, rdO]; omega), (by simp only [rP, rLs, prc, rdO]; omega)⟩ dX1_lawText_25 ?_
        refine lv_bipush (v := (12 : Int32)) hx hb dX1_lawText_28 (by decide) ?_
        rw [he12]
        have hP : va_P D zCl ([] ++ (((cH k ah aw adr aim ard asc ath awl alo atr sh) ++ (cR k ard st)) ++ ([(qs, .inr (7, [.ref ql]))] ++ ww))) _ := hP
        have hD : va_D A ([] ++ (((cH k ah aw adr aim ard asc ath awl alo atr sh) ++ (cR k ard st)) ++ ([(qs, .inr (7, [.ref ql]))] ++ ww))) := hD
        refine cXV [] ((cH k ah aw adr aim ard asc ath awl alo atr sh) ++ (cR k ard st)) ([(qs, .inr (7, [.ref ql]))] ++ ww) (As := [.int (nI 12), .int (12 : Int32)]) (ci := 1) ⟨hx, hb, hml, hown, hts⟩ hOK hz hS hA hP hD (mtX1_noMore l D k ah aw adr aim ard asc ath awl alo atr Z hOK hlt hTh hStr hPv sh st (nI 12) 12 _ h4) (kX1_noMore hts q779 rfl rfl ⟨Nat.le_of_ble_eq_true rfl, Nat.le_of_ble_eq_true rfl⟩) 0 rfl rfl rfl hl.1 rfl (lv_room (Nat.le_of_ble_eq_true rfl)) ⟨(by simp only [rP, rLs, prc, rdO]; omega), (by simp only [rP, rLs, prc, rdO]; omega)⟩ dX1_lawText_30 (fun E_ w_ ce_ q9_ H locs hq hP hD hS hce hcv hcl => ?_) (fun r_ w_ H locs hq hP hD hS => ?_)
        · obtain ⟨ord, he, rfl⟩ := hq
          cases he
          have hP := zdropP (x := ((cH k ah aw adr aim ard asc ath awl alo atr sh) ++ (cR k ard s2))) (y := ([(qs, .inr (7, [.ref ql]))] ++ ww)) hP
          have hD := zdropD (x := ((cH k ah aw adr aim ard asc ath awl alo atr sh) ++ (cR k ard s2))) (y := ([(qs, .inr (7, [.ref ql]))] ++ ww)) hD
          exact zout hnoh hlocks hce hcv hcl hP hD hS ⟨_, rfl, rfl⟩ (by simp only [prc, rdO]; omega) (by simp only [prc, rdO]; omega)
        · obtain ⟨ord, he, rfl, rfl⟩ := hq
          exact nomatch he
      | succ j ih =>
        intro st gs els xs ww V U h2 hL hpw hel hlen hge hb0 hb1 H locs hP hD hS ls hl
        have hUV : V ≤ 2 + 50 * (rA st - rA srd) ∧ U ≤ 4 + 5500 * (rA st - rA srd) := by
          by_cases q : els = []
          · exact hb0 q
          · have := hb1 q; omega
        have hmo := textL_m hCm _ _ _ _ h2
        obtain ⟨e1, mc1, r1, hw1⟩ := hL.head
        rw [fX1_textL.eq_2] at h2
        obtain ⟨o2, h3, h2⟩ := mox_s rfl h2
        have hm2 := lawLine_m hCm h3
        refine lv_aload_n hx hb dX1_lawText_20 rfl (lv_at hl 1 rfl) ?_
        refine lv_aload_n hx hb dX1_lawText_21 rfl (lv_at hl 0 rfl) ?_
        refine va_getN (ci := 7) (v := .ref ql) (C := RX8) (T := TX8) (N := 1) hx hb hts in_X8 hown hK hP 3 rfl rfl 0 (by decide) (va_Nw.use rfl (hN _ (zN_of q1316 rfl))) (fun _ h9 => h9) rfl dX1_lawText_22 ?_
        refine cRV (As := []) (ci := 15) ⟨hx, hb, hml, hown, hts⟩ hOK hz hS (show va_P D zCl [lsO ql e1 mc1 els.length] _ from hP.sub [4] (by rw [hw1]; rfl)) (mtJ2_size l D k Z hOK ql e1 mc1 els.length) (kJ2_size hts q714 rfl rfl ⟨Nat.le_of_ble_eq_true rfl, Nat.le_of_ble_eq_true rfl⟩) 0 rfl rfl rfl hl.1 rfl (lv_room (Nat.le_of_ble_eq_true rfl)) ⟨(by simp only [rP, rLs, prc]; omega), (by simp only [rP, rLs, prc]; omega)⟩ dX1_lawText_25 ?_
        refine lv_bipush (v := (12 : Int32)) hx hb dX1_lawText_28 (by decide) ?_
        refine cRV (As := [.int (nI els.length), .int (12 : Int32)]) (ci := 1) ⟨hx, hb, hml, hown, hts⟩ hOK hz hS (hP.sub (ws' := (cH k ah aw adr aim ard asc ath awl alo atr sh)) [0] rfl) (mtX1_noMore_t l D k Z hOK ah aw adr aim ard asc ath awl alo atr sh (nI els.length) 12 (by rw [li12]; exact nI_ge (by omega) (by omega))) (kX1_noMore hts q779 rfl rfl ⟨Nat.le_of_ble_eq_true rfl, Nat.le_of_ble_eq_true rfl⟩) 0 rfl rfl rfl hl.1 rfl (lv_room (Nat.le_of_ble_eq_true rfl)) ⟨(by simp only [rP, rLs, prc]; omega), (by simp only [rP, rLs, prc]; omega)⟩ dX1_lawText_30 ?_
        refine lv_aload_n hx hb dX1_lawText_33 rfl (lv_at hl 0 rfl) ?_
        refine va_getN (ci := 7) (v := .ref ql) (C := RX8) (T := TX8) (N := 1) hx hb hts in_X8 hown hK hP 3 rfl rfl 0 (by decide) (va_Nw.use rfl (hN _ (zN_of q1316 rfl))) (fun _ h9 => h9) rfl dX1_lawText_34 ?_
        refine lv_aload_n hx hb dX1_lawText_37 rfl (lv_at hl 1 rfl) ?_
        have hP : va_P D zCl ([] ++ (((cH k ah aw adr aim ard asc ath awl alo atr sh) ++ (cR k ard st)) ++ ([(qs, .inr (7, [.ref ql]))] ++ ww))) _ := hP
        have hD : va_D A ([] ++ (((cH k ah aw adr aim ard asc ath awl alo atr sh) ++ (cR k ard st)) ++ ([(qs, .inr (7, [.ref ql]))] ++ ww))) := hD
        cases o2 with
        | inl E =>
          obtain ⟨E1, s1⟩ := E
          have h2 := moxl h2
          cases h2
          have hm2 : rA st ≤ rA s1 ∧ rA s1 ≤ 400 := hm2
          refine cXV [] ((cH k ah aw adr aim ard asc ath awl alo atr sh) ++ (cR k ard st)) ([(qs, .inr (7, [.ref ql]))] ++ ww) (As := []) (ci := 1) ⟨hx, hb, hml, hown, hts⟩ hOK hz hS hA hP hD (mtX1_lawLine l D k ah aw adr aim ard asc ath awl alo atr Z hOK6 hlt hTh hStr hPv hLs hVl sh st _ h3) (kX1_lawLine hts q1320 rfl rfl ⟨Nat.le_of_ble_eq_true rfl, Nat.le_of_ble_eq_true rfl⟩) 0 rfl rfl rfl hl.1 rfl (lv_room (Nat.le_of_ble_eq_true rfl)) ⟨(by simp only [rP, rLs, prc, rdO]; omega), (by simp only [rP, rLs, prc, rdO]; omega)⟩ dX1_lawText_38 (fun E_ w_ ce_ q9_ H locs hq hP hD hS hce hcv hcl => ?_) (fun r_ w_ H locs hq hP hD hS => ?_)
          · obtain ⟨ord, he, rfl⟩ := hq
            cases he
            have hP : va_P D zCl (((cH k ah aw adr aim ard asc ath awl alo atr sh) ++ (cR k ard s1)) ++ ([(qs, .inr (7, [.ref ql]))] ++ ww)) _ := hP
            have hD : va_D A (((cH k ah aw adr aim ard asc ath awl alo atr sh) ++ (cR k ard s1)) ++ ([(qs, .inr (7, [.ref ql]))] ++ ww)) := hD
            have hP := zdropP (x := ((cH k ah aw adr aim ard asc ath awl alo atr sh) ++ (cR k ard s1))) (y := ([(qs, .inr (7, [.ref ql]))] ++ ww)) hP
            have hD := zdropD (x := ((cH k ah aw adr aim ard asc ath awl alo atr sh) ++ (cR k ard s1))) (y := ([(qs, .inr (7, [.ref ql]))] ++ ww)) hD
            exact zout hnoh hlocks hce hcv hcl hP hD hS ⟨_, rfl, rfl⟩ (by simp only [prc, rdO]; omega) (by simp only [prc, rdO]; omega)
          · obtain ⟨g, ord, q, np, he, rfl, hp, hel9, rfl⟩ := hq
            exact nomatch he
        | inr q =>
          obtain ⟨g, s1⟩ := q
          have h2 := moxr h2
          have hm2 : rA st ≤ rA s1 ∧ rA s1 ≤ 400 := hm2
          obtain ⟨o3, h4, h2⟩ := mox_s rfl h2
          obtain ⟨h5, h5n, h5m⟩ := gOn_s h4
          have hend : ∃ s2, rA s1 ≤ rA s2 ∧ rA s2 ≤ rA (rdO o) := by
            cases o3 with
            | inl E =>
              have h2 := moxl h2
              cases h2
              exact ⟨E.2, (h5n _ rfl).1, Nat.le_refl _⟩
            | inr z =>
              have h2 := moxr h2
              have h6 := h5m _ rfl
              obtain ⟨b, s2⟩ := z
              cases b with
              | true => exact ⟨s2, Nat.le_trans (Nat.le_add_right _ _) h6.1, (textL_m hCm _ _ _ _ (mif_p rfl h2)).1⟩
              | false =>
                have h2 := mif_n (by exact Bool.false_ne_true) h2
                cases h2
                exact ⟨s2, h6.1, Nat.le_refl _⟩
          obtain ⟨s9, he1, he2⟩ := hend
          refine cXV [] ((cH k ah aw adr aim ard asc ath awl alo atr sh) ++ (cR k ard st)) ([(qs, .inr (7, [.ref ql]))] ++ ww) (As := []) (ci := 1) ⟨hx, hb, hml, hown, hts⟩ hOK hz hS hA hP hD (mtX1_lawLine l D k ah aw adr aim ard asc ath awl alo atr Z hOK6 hlt hTh hStr hPv hLs hVl sh st _ h3) (kX1_lawLine hts q1320 rfl rfl ⟨Nat.le_of_ble_eq_true rfl, Nat.le_of_ble_eq_true rfl⟩) 0 rfl rfl rfl hl.1 rfl (lv_room (Nat.le_of_ble_eq_true rfl)) ⟨(by simp only [rP, rLs, prc]; show _ + (_ * (rA s1 - rA st) + _) ≤ _; omega), (by simp only [rP, rLs, prc]; show _ + (_ * (rA s1 - rA st) + _) ≤ _; omega)⟩ dX1_lawText_38 (fun E_ w_ ce_ q9_ H locs hq hP hD hS hce hcv hcl => ?_) (fun r_ w_ H locs hq hP hD hS => ?_)
          · obtain ⟨ord, he, rfl⟩ := hq
            exact nomatch he
          obtain ⟨g9, ord, qn, np, he, rfl, hp, hel9, rfl⟩ := hq
          cases he
          refine W.widen (k := V + (50 * (rA s1 - rA st) + 10)) (n := U + (5500 * (rA s1 - rA st) + 1606)) (Nat.le_refl _) (Nat.le_refl _) ?_
          have hP : va_P D zCl (zcat [(cH k ah aw adr aim ard asc ath awl alo atr sh), (cR k ard s1), np, [(qs, .inr (7, [.ref ql]))], ww]) _ := hP
          have hD : va_D A (zcat [(cH k ah aw adr aim ard asc ath awl alo atr sh), (cR k ard s1), np, [(qs, .inr (7, [.ref ql]))], ww]) := hD
          have hP := zbP [(cH k ah aw adr aim ard asc ath awl alo atr sh), (cR k ard s1), np, [(qs, .inr (7, [.ref ql]))], ww] 5 [0, 1, 3, 4, 2] hP rfl (by decide)
          have hD := zbD [(cH k ah aw adr aim ard asc ath awl alo atr sh), (cR k ard s1), np, [(qs, .inr (7, [.ref ql]))], ww] 5 [0, 1, 3, 4, 2] hD rfl (by decide)
          have hP : va_P D zCl (((cH k ah aw adr aim ard asc ath awl alo atr sh) ++ ((cR k ard s1) ++ [(qs, .inr (7, [.ref ql]))])) ++ (ww ++ np)) _ := hP
          have hD : va_D A (((cH k ah aw adr aim ard asc ath awl alo atr sh) ++ ((cR k ard s1) ++ [(qs, .inr (7, [.ref ql]))])) ++ (ww ++ np)) := hD
          have hsub : ∀ x ∈ np, x ∈ xs ++ np := fun x hx => List.mem_append_right _ hx
          have hsub2 : ∀ x ∈ xs, x ∈ xs ++ np := fun x hx => List.mem_append_left _ hx
          have hads : adS els ≤ 602 ∧ (els = [] → adS els = 10) := by
            cases els with
            | nil => exact ⟨by decide, fun _ => rfl⟩
            | cons _ _ => exact ⟨Nat.le_refl _, fun z => nomatch z⟩
          have hroom : V + (50 * (rA s1 - rA st) + 10) + 1 + 1 ≤ (rP 34 1170 14 1626 srd o).cells ∧ U + (5500 * (rA s1 - rA st) + 1606) + adS els + 6 ≤ (rP 34 1170 14 1626 srd o).slots := by
            simp only [rP, rLs, prc]
            by_cases q : els = []
            · have := hb0 q
              have := hads.2 q
              omega
            · have := hb1 q
              omega
          refine cAdd ((cH k ah aw adr aim ard asc ath awl alo atr sh) ++ ((cR k ard s1) ++ [(qs, .inr (7, [.ref ql]))])) (hL.ext np) (by omega) (fun y hy => (hel y hy).mono hsub2) (hel9.mono hsub) ⟨hx, hb, hml, hown, hts⟩ hOK hLs hz hS hA hP hD q1439 ⟨Nat.le_of_ble_eq_true rfl, Nat.le_of_ble_eq_true rfl⟩ hl.1 (lv_room (Nat.le_of_ble_eq_true rfl)) ⟨by omega, by omega⟩ dX1_lawText_41 (fun w2 H locs hL2 hP hD hS => ?_)
          have hP : va_P D zCl ((cH k ah aw adr aim ard asc ath awl alo atr sh) ++ ((cR k ard s1) ++ ([(qs, .inr (7, [.ref ql]))] ++ w2))) _ := hP
          have hD : va_D A ((cH k ah aw adr aim ard asc ath awl alo atr sh) ++ ((cR k ard s1) ++ ([(qs, .inr (7, [.ref ql]))] ++ w2))) := hD
          refine lv_pop hx hb dX1_lawText_44 rfl ?_
          refine lv_aload_n hx hb dX1_lawText_45 rfl (lv_at hl 1 rfl) ?_
          have hP : va_P D zCl ([] ++ (((cH k ah aw adr aim ard asc ath awl alo atr sh) ++ (cR k ard s1)) ++ ([(qs, .inr (7, [.ref ql]))] ++ w2))) _ := hP
          have hD : va_D A ([] ++ (((cH k ah aw adr aim ard asc ath awl alo atr sh) ++ (cR k ard s1)) ++ ([(qs, .inr (7, [.ref ql]))] ++ w2))) := hD
          refine cXV [] ((cH k ah aw adr aim ard asc ath awl alo atr sh) ++ (cR k ard s1)) ([(qs, .inr (7, [.ref ql]))] ++ w2) (As := []) (ci := 1) ⟨hx, hb, hml, hown, hts⟩ hOK hz hS hA hP hD (mtX1_goesOn l D k ah aw adr aim ard asc ath awl alo atr Z hOK hlt hTh sh s1 o3 h5) (kX1_goesOn hts q1258 rfl rfl ⟨Nat.le_of_ble_eq_true rfl, Nat.le_of_ble_eq_true rfl⟩) 0 rfl rfl rfl hl.1 rfl (lv_room (Nat.le_of_ble_eq_true rfl)) hroom dX1_lawText_46 (fun E_ w_ ce_ q9_ H locs hq hP hD hS hce hcv hcl => ?_) (fun r_ w_ H locs hq hP hD hS => ?_)
          · obtain ⟨ord, rfl, rfl⟩ := hq
            have h2 := moxl h2
            cases h2
            have hP := zdropP (x := ((cH k ah aw adr aim ard asc ath awl alo atr sh) ++ (cR k ard ord))) (y := ([(qs, .inr (7, [.ref ql]))] ++ w2)) hP
            have hD := zdropD (x := ((cH k ah aw adr aim ard asc ath awl alo atr sh) ++ (cR k ard ord))) (y := ([(qs, .inr (7, [.ref ql]))] ++ w2)) hD
            exact zout hnoh hlocks hce hcv hcl hP hD hS ⟨_, rfl, rfl⟩ hroom.1 hroom.2
          obtain ⟨b, s2, rfl, rfl, rfl⟩ := hq
          have h2 := moxr h2
          have h6 := h5m _ rfl
          have hP : va_P D zCl ((cH k ah aw adr aim ard asc ath awl alo atr sh) ++ ((cR k ard s2) ++ ([(qs, .inr (7, [.ref ql]))] ++ w2))) _ := hP
          have hD : va_D A ((cH k ah aw adr aim ard asc ath awl alo atr sh) ++ ((cR k ard s2) ++ ([(qs, .inr (7, [.ref ql]))] ++ w2))) := hD
          cases b with
          | true =>
            have hA7 : rA s1 + 1 ≤ rA s2 ∧ rA s2 ≤ 400 := h6
            refine lv_if_ne (tgt := 20) hx hb dX1_lawText_49 (by decide) (fun _ => ?_) (fun c1 => absurd c1 (by decide))
            refine ih s2 (gs ++ [g]) (els ++ [qn]) (xs ++ np) w2 _ _ (mif_p rfl h2) hL2 ((hpw.imp fun x g h => h.mono hsub2 (Nat.le_refl _)).snoc (hp.mono hsub (Nat.le_refl _))) (fun y hy => ?_) (by rw [List.length_append]; show els.length + 1 + j = 12; omega) (by omega) (fun z => by simp at z) (fun _ => ?_) H locs hP hD hS ls hl
            · rcases List.mem_append.mp hy with h | h
              · exact (hel y h).mono hsub2
              · rw [List.mem_singleton.mp h]
                exact hel9.mono hsub
            · by_cases q : els = []
              · have := hb0 q
                have := hads.2 q
                omega
              · have := hb1 q
                omega
          | false =>
            refine lv_if_ne (tgt := 20) hx hb dX1_lawText_49 (by decide) (fun c1 => absurd rfl c1) (fun _ => ?_)
            have h2 := mif_n (by exact Bool.false_ne_true) h2
            cases h2
            refine lv_aload_n hx hb dX1_lawText_52 rfl (lv_at hl 0 rfl) ?_
            have hP : va_P D zCl (((cH k ah aw adr aim ard asc ath awl alo atr sh) ++ (cR k ard s2)) ++ ([(qs, .inr (7, [.ref ql]))] ++ w2)) _ := hP
            have hD : va_D A (((cH k ah aw adr aim ard asc ath awl alo atr sh) ++ (cR k ard s2)) ++ ([(qs, .inr (7, [.ref ql]))] ++ w2)) := hD
            have hwin : ∀ x ∈ w2, x ∈ [(qs, .inr (7, [.ref ql]))] ++ w2 := fun x hx => List.mem_append_right _ hx
            refine W.widen (k := prc 50 14 srd (.inr (gs ++ [g], s2))) (n := prc 5500 1626 srd (.inr (gs ++ [g], s2))) hroom.1 hroom.2 ?_
            exact vx_ret (retW_a hx hb hr (Or.inl ⟨_, rfl⟩) hlocks hP hD hS ⟨_, _, qs, _, rfl, rfl, ⟨ql, els ++ [qn], gs ++ [g], List.mem_append_left _ (List.mem_singleton.mpr rfl), hL2.fin hwin, (by rw [List.length_append, List.length_append, hpw.1]; rfl), ((hpw.imp fun x g h => h.mono (fun y hy => hwin _ (hL2.sub _ (hsub2 y hy))) (Nat.le_refl _)).snoc (hp.mono (fun y hy => hwin _ (hL2.sub _ (hsub y hy))) (Nat.le_refl _))), rfl⟩, rfl⟩ dX1_lawText_53)
    exact key 12 s1 [] [] [] _ _ _ hrun (Or.inl ⟨rfl, 0, rfl⟩) pw.nil (fun y hy => by simp at hy) rfl hA1.1 (fun _ => by omega) (fun z => absurd rfl z) H locs hP hD hS ls hl
