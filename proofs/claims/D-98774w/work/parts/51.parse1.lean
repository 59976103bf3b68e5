/-! THE LAW's TEXT: parts, sums -/
noncomputable def fX1_onePart (srd : Rd) : Option ((String × Rd) ⊕ ((Sc → Int32) × Rd)) :=
  mo2 (gFig srd) fun b s0 => if b = true then mox (gNum s0 (0 : Int32) (999 : Int32)) (fun E => some (.inl E)) (fun q => some (.inr ((fun _ => q.1), q.2))) else mob (gWd s0) fun s1 => mqn (facL (fun i => wdIs s1 (fcS i)) 7 0) (some (.inl ("SaturdayKeep$Wrong", s1))) fun i => some (.inr (scF i, s1))
theorem onePart_m {srd : Rd} {o : (String × Rd) ⊕ ((Sc → Int32) × Rd)} (h : fX1_onePart srd = some o) : rA srd ≤ rA (rdO o) ∧ rA (rdO o) ≤ 400 := by
  unfold fX1_onePart at h
  obtain ⟨b, s0, hf, h⟩ := mo2_s rfl h
  obtain ⟨-, hA1⟩ := gFig_s hf
  cases b with
  | true =>
    have h := mif_p rfl h
    obtain ⟨o1, hn, h⟩ := mox_s rfl h
    obtain ⟨-, hn2, hn3⟩ := gNum_s hn
    cases o1 with
    | inl E =>
      have h := moxl h
      cases h
      have := hn2 _ rfl
      show rA srd ≤ rA E.2 ∧ rA E.2 ≤ 400
      omega
    | inr q =>
      have h := moxr h
      cases h
      have := hn3 _ rfl
      show rA srd ≤ rA q.2 ∧ rA q.2 ≤ 400
      omega
  | false =>
    have h := mif_n (by decide) h
    obtain ⟨s1, hw, h⟩ := mob_s rfl h
    obtain ⟨-, -, hA2⟩ := gWd_s hw
    cases hc : facL (fun i => wdIs s1 (fcS i)) 7 0 with
    | none =>
      have h := mqn_n hc h
      cases h
      show rA srd ≤ rA s1 ∧ rA s1 ≤ 400
      omega
    | some i =>
      have h := mqn_s hc h
      cases h
      show rA srd ≤ rA s1 ∧ rA s1 ≤ 400
      omega
theorem kX1_onePart {R : Room} {s : State} {args : Array Value} {own : String} {idx mc ms : Nat} {rm : Room} (hts : ∀ w ∈ lw_all, w.before args s = true) (hl : Cond.methodLink own idx yX1_onePart ∈ lw_all) (hrc : rm.cells = mc) (hrs : rm.slots = ms) (hR : rm.frames + 1 ≤ R.frames ∧ 8 + (2 + 11) + rm.locals ≤ R.locals) : CallW R s args own RX1 idx yX1_onePart cX1_onePart 2 (some (.object "SaturdayKeep$Part")) (ws_ yX1_onePart cX1_onePart 2 (some (.object "SaturdayKeep$Part"))) rm mc ms 0 :=
  cwV 0 hts (lw_V hl q1405 qs30 q107 q1406) rfl hrc hrs (by decide +kernel) hR
set_option maxRecDepth 100000 in
theorem mtX1_onePart (l : Launch) (D : va_G) (k : Nat → ClassId) (ah aw adr aim ard asc ath awl alo atr : Nat → Nat) (Z : zZ) (hOK6 : zOK D zCl (zTy6 k) Z) (hlt : l.stackTraces = false) (hTh : zTh Z) {adK adV : Nat → Nat} (hStr : zStr Z adK adV) (hPv : zPv Z) {e0 mi : Nat} (hLs : zLs Z e0 mi) {aF : Nat → Nat} {vq : Nat} (hVl : zVl k Z aF adK vq) (sh : Kp) (srd : Rd) (o : (String × Rd) ⊕ ((Sc → Int32) × Rd)) (hrun : fX1_onePart srd = some o) : CtX l yX1_onePart cX1_onePart 2 (some (.object "SaturdayKeep$Part")) (rP 10 420 12 1620 srd o) Z D zCl ((cH k ah aw adr aim ard asc ath awl alo atr sh) ++ (cR k ard srd)) [.ref (ah 0)] (fun r' w' => ∃ g ord q np, o = .inr (g, ord) ∧ r' = some (.ref q) ∧ prAt aF np q g ∧ elIn np q ∧ w' = (((cH k ah aw adr aim ard asc ath awl alo atr sh) ++ (cR k ard ord)) ++ np)) (fun E' w' => ∃ ord, o = .inl (E', ord) ∧ w' = ((cH k ah aw adr aim ard asc ath awl alo atr sh) ++ (cR k ard ord))) (prc 50 12 srd o) (prc 5500 1620 srd o) := by
  have hOK := zOK6 hOK6
  unfold fX1_onePart at hrun
  obtain ⟨b, s0, hf, hrun⟩ := mo2_s rfl hrun
  obtain ⟨hf1, hA1⟩ := gFig_s hf
  cases b with
  | true =>
    have hrun := mif_p rfl hrun
    obtain ⟨o1, hn, hrun⟩ := mox_s rfl hrun
    obtain ⟨hn1, hn2, hn3⟩ := gNum_s hn
    cases o1 with
    | inl E =>
      obtain ⟨E1, s1⟩ := E
      have hrun := moxl hrun
      cases hrun
      have hA2 : rA s0 ≤ rA s1 ∧ rA s1 ≤ 400 := hn2 _ rfl
      refine CtX.of (by decide) (Nat.le_of_ble_eq_true rfl) ?_
      intro p e9 s m args below meth c A hE hnoh hA hP hD hS hz ls hl
      obtain ⟨hx, hb, hr, hml, hown, hts, hlocks, hname⟩ := hE
      have hown : s.vm.findClass RX1 = some m.cls := hown
      have hK := hOK.1 _ _ _ hz
      have hN := hOK.2.1 _ _ _ hz
      have hl : lv_has ls 2 [(0, .ref (ah 0))] := hl
      refine lv_aload_n hx hb dX1_onePart_0 rfl (lv_at hl 0 rfl) ?_
      refine va_get (ci := 1) (v := .ref (ard 0)) (C := RX1) (T := TX1) (N := 10) hx hb hts in_X1 hown hK hP 0 rfl rfl 4 (by decide) (hts _ q375) (fun _ h9 => h9) rfl dX1_onePart_1 ?_
      have hP : va_P D zCl ((cH k ah aw adr aim ard asc ath awl alo atr sh) ++ (cR k ard srd)) _ := hP
      have hD : va_D A ((cH k ah aw adr aim ard asc ath awl alo atr sh) ++ (cR k ard srd)) := hD
      refine cWVP (cH k ah aw adr aim ard asc ath awl alo atr sh) (cR k ard srd) (As := []) (ci := 3) ⟨hx, hb, hml, hown, hts⟩ hOK hz hS hA hP hD (mtX3_isFigure l D k ard Z hOK srd _ s0 hf1) (kX3_isFigure hts q1407 rfl rfl ⟨Nat.le_of_ble_eq_true rfl, Nat.le_of_ble_eq_true rfl⟩) 0 rfl rfl rfl hl.1 rfl (lv_room (Nat.le_of_ble_eq_true rfl)) ⟨(by simp only [rP, rLs, prc, rdO]; omega), (by simp only [rP, rLs, prc, rdO]; omega)⟩ dX1_onePart_4 (fun r_ w_ H locs hq hP hD hS => ?_)
      obtain ⟨rfl, rfl⟩ := hq
      refine lv_if_eq (tgt := 30) hx hb dX1_onePart_7 (by decide) (fun c1 => absurd c1 (by decide)) (fun _ => ?_)
      refine va_new (ci := 13) (fs := [.int 0, .null]) (C := RX14) (T := TX14) (N := 2) hx hb hts in_X14 tyX14 tyX14_ok hown (hts _ q1411) (hts _ q1412) (hts _ q140) hK hP hD hS hA rfl (zdef 2 tyX14) (by simp only [rP, rLs, prc, rdO]; omega) (by simp only [rP, rLs, prc, rdO]; omega) dX1_onePart_10 (fun qp H hP hD hS => ?_)
      refine lv_dup hx hb dX1_onePart_13 rfl ?_
      refine lv_aload_n hx hb dX1_onePart_14 rfl (lv_at hl 0 rfl) ?_
      refine va_get (ci := 1) (v := .ref (ard 0)) (C := RX1) (T := TX1) (N := 10) hx hb hts in_X1 hown hK hP 0 rfl rfl 4 (by decide) (hts _ q375) (fun _ h9 => h9) rfl dX1_onePart_15 ?_
      refine lv_iconst (v := (0 : Int32)) hx hb dX1_onePart_18 (by decide) ?_
      refine lv_sipush (v := (999 : Int32)) hx hb dX1_onePart_19 (by decide) ?_
      have hP : va_P D zCl ((cH k ah aw adr aim ard asc ath awl alo atr sh) ++ ((cR k ard s0) ++ [(qp, .inr (13, [.int 0, .null]))])) _ := hP
      have hD : va_D A ((cH k ah aw adr aim ard asc ath awl alo atr sh) ++ ((cR k ard s0) ++ [(qp, .inr (13, [.int 0, .null]))])) := hD
      refine cXV (cH k ah aw adr aim ard asc ath awl alo atr sh) (cR k ard s0) [(qp, .inr (13, [.int 0, .null]))] (As := [.int (0 : Int32), .int (999 : Int32)]) (ci := 3) ⟨hx, hb, hml, hown, hts⟩ hOK hz hS hA hP hD (mtX3_number l D k ard Z hOK hlt hTh s0 0 999 _ hn1) (kX3_number hts q1232 rfl rfl ⟨Nat.le_of_ble_eq_true rfl, Nat.le_of_ble_eq_true rfl⟩) 0 rfl rfl rfl hl.1 rfl (lv_room (Nat.le_of_ble_eq_true rfl)) ⟨(by simp only [rP, rLs, prc, rdO]; omega), (by simp only [rP, rLs, prc, rdO]; omega)⟩ dX1_onePart_22 (fun E_ w_ ce_ q9_ H locs hq hP hD hS hce hcv hcl => ?_) (fun r_ w_ H locs hq hP hD hS => ?_)
      · obtain ⟨ord, he, rfl⟩ := hq
        cases he
        have hP : va_P D zCl ((cH k ah aw adr aim ard asc ath awl alo atr sh) ++ ((cR k ard s1) ++ [(qp, .inr (13, [.int 0, .null]))])) _ := hP
        have hD : va_D A ((cH k ah aw adr aim ard asc ath awl alo atr sh) ++ ((cR k ard s1) ++ [(qp, .inr (13, [.int 0, .null]))])) := hD
        have hP : va_P D zCl (((cH k ah aw adr aim ard asc ath awl alo atr sh) ++ (cR k ard s1)) ++ [(qp, .inr (13, [.int 0, .null]))]) _ := hP
        have hD : va_D A (((cH k ah aw adr aim ard asc ath awl alo atr sh) ++ (cR k ard s1)) ++ [(qp, .inr (13, [.int 0, .null]))]) := hD
        have hP := zdropP (x := ((cH k ah aw adr aim ard asc ath awl alo atr sh) ++ (cR k ard s1))) (y := [(qp, .inr (13, [.int 0, .null]))]) hP
        have hD := zdropD (x := ((cH k ah aw adr aim ard asc ath awl alo atr sh) ++ (cR k ard s1))) (y := [(qp, .inr (13, [.int 0, .null]))]) hD
        exact zout hnoh hlocks hce hcv hcl hP hD hS ⟨_, rfl, rfl⟩ (by simp only [prc, rdO]; omega) (by simp only [prc, rdO]; omega)
      · obtain ⟨r, ord, he, rfl, rfl⟩ := hq
        exact nomatch he
    | inr q =>
      obtain ⟨r1, s1⟩ := q
      have hrun := moxr hrun
      cases hrun
      have hA2 : rA s0 + 1 ≤ rA s1 ∧ rA s1 ≤ 400 := hn3 _ rfl
      refine CtX.of (by decide) (Nat.le_of_ble_eq_true rfl) ?_
      intro p e9 s m args below meth c A hE hnoh hA hP hD hS hz ls hl
      obtain ⟨hx, hb, hr, hml, hown, hts, hlocks, hname⟩ := hE
      have hown : s.vm.findClass RX1 = some m.cls := hown
      have hK := hOK.1 _ _ _ hz
      have hN := hOK.2.1 _ _ _ hz
      have hl : lv_has ls 2 [(0, .ref (ah 0))] := hl
      refine lv_aload_n hx hb dX1_onePart_0 rfl (lv_at hl 0 rfl) ?_
      refine va_get (ci := 1) (v := .ref (ard 0)) (C := RX1) (T := TX1) (N := 10) hx hb hts in_X1 hown hK hP 0 rfl rfl 4 (by decide) (hts _ q375) (fun _ h9 => h9) rfl dX1_onePart_1 ?_
      have hP : va_P D zCl ((cH k ah aw adr aim ard asc ath awl alo atr sh) ++ (cR k ard srd)) _ := hP
      have hD : va_D A ((cH k ah aw adr aim ard asc ath awl alo atr sh) ++ (cR k ard srd)) := hD
      refine cWVP (cH k ah aw adr aim ard asc ath awl alo atr sh) (cR k ard srd) (As := []) (ci := 3) ⟨hx, hb, hml, hown, hts⟩ hOK hz hS hA hP hD (mtX3_isFigure l D k ard Z hOK srd _ s0 hf1) (kX3_isFigure hts q1407 rfl rfl ⟨Nat.le_of_ble_eq_true rfl, Nat.le_of_ble_eq_true rfl⟩) 0 rfl rfl rfl hl.1 rfl (lv_room (Nat.le_of_ble_eq_true rfl)) ⟨(by simp only [rP, rLs, prc, rdO]; omega), (by simp only [rP, rLs, prc, rdO]; omega)⟩ dX1_onePart_4 (fun r_ w_ H locs hq hP hD hS => ?_)
      obtain ⟨rfl, rfl⟩ := hq
      refine lv_if_eq (tgt := 30) hx hb dX1_onePart_7 (by decide) (fun c1 => absurd c1 (by decide)) (fun _ => ?_)
      refine va_new (ci := 13) (fs := [.int 0, .null]) (C := RX14) (T := TX14) (N := 2) hx hb hts in_X14 tyX14 tyX14_ok hown (hts _ q1411) (hts _ q1412) (hts _ q140) hK hP hD hS hA rfl (zdef 2 tyX14) (by simp only [rP, rLs, prc, rdO]; omega) (by simp only [rP, rLs, prc, rdO]; omega) dX1_onePart_10 (fun qp H hP hD hS => ?_)
      refine lv_dup hx hb dX1_onePart_13 rfl ?_
      refine lv_aload_n hx hb dX1_onePart_14 rfl (lv_at hl 0 rfl) ?_
      refine va_get (ci := 1) (v := .ref (ard 0)) (C := RX1) (T := TX1) (N := 10) hx hb hts in_X1 hown hK hP 0 rfl rfl 4 (by decide) (hts _ q375) (fun _ h9 => h9) rfl dX1_onePart_15 ?_
      refine lv_iconst (v := (0 : Int32)) hx hb dX1_onePart_18 (by decide) ?_
      refine lv_sipush (v := (999 : Int32)) hx hb dX1_onePart_19 (by decide) ?_
      have hP : va_P D zCl ((cH k ah aw adr aim ard asc ath awl alo atr sh) ++ ((cR k ard s0) ++ [(qp, .inr (13, [.int 0, .null]))])) _ := hP
      have hD : va_D A ((cH k ah aw adr aim ard asc ath awl alo atr sh) ++ ((cR k ard s0) ++ [(qp, .inr (13, [.int 0, .null]))])) := hD
      refine cXV (cH k ah aw adr aim ard asc ath awl alo atr sh) (cR k ard s0) [(qp, .inr (13, [.int 0, .null]))] (As := [.int (0 : Int32), .int (999 : Int32)]) (ci := 3) ⟨hx, hb, hml, hown, hts⟩ hOK hz hS hA hP hD (mtX3_number l D k ard Z hOK hlt hTh s0 0 999 _ hn1) (kX3_number hts q1232 rfl rfl ⟨Nat.le_of_ble_eq_true rfl, Nat.le_of_ble_eq_true rfl⟩) 0 rfl rfl rfl hl.1 rfl (lv_room (Nat.le_of_ble_eq_true rfl)) ⟨(by simp only [rP, rLs, prc, rdO]; omega), (by simp only [rP, rLs, prc, rdO]; omega)⟩ dX1_onePart_22 (fun E_ w_ ce_ q9_ H locs hq hP hD hS hce hcv hcl => ?_) (fun r_ w_ H locs hq hP hD hS => ?_)
      · obtain ⟨ord, he, rfl⟩ := hq
        exact nomatch he
      obtain ⟨r, ord, he, rfl, rfl⟩ := hq
      cases he
      refine lv_null hx hb dX1_onePart_25 ?_
      have hP : va_P D zCl (((cH k ah aw adr aim ard asc ath awl alo atr sh) ++ (cR k ard s1)) ++ ([(qp, .inr (13, [.int 0, .null]))] ++ [])) _ := hP
      have hD : va_D A (((cH k ah aw adr aim ard asc ath awl alo atr sh) ++ (cR k ard s1)) ++ ([(qp, .inr (13, [.int 0, .null]))] ++ [])) := hD
      refine cWI ((cH k ah aw adr aim ard asc ath awl alo atr sh) ++ (cR k ard s1)) [(qp, .inr (13, [.int 0, .null]))] [] (As := [.int r1, va_rf none]) ⟨hx, hb, hml, hown, hts⟩ hOK hz hS hA hP hD (mtX14_init l D k Z hOK qp r1 none) (kX14_init hts q1413 rfl rfl ⟨Nat.le_of_ble_eq_true rfl, Nat.le_of_ble_eq_true rfl⟩) rfl hl.1 rfl (lv_room (Nat.le_of_ble_eq_true rfl)) ⟨(by simp only [rP, rLs, prc, rdO]; omega), (by simp only [rP, rLs, prc, rdO]; omega)⟩ dX1_onePart_26 (fun r_ w_ H locs hq hP hD hS => ?_)
      obtain ⟨rfl, rfl⟩ := hq
      have hP : va_P D zCl (((cH k ah aw adr aim ard asc ath awl alo atr sh) ++ (cR k ard s1)) ++ [(qp, .inr (13, [.int r1, va_rf none]))]) _ := hP
      have hD : va_D A (((cH k ah aw adr aim ard asc ath awl alo atr sh) ++ (cR k ard s1)) ++ [(qp, .inr (13, [.int r1, va_rf none]))]) := hD
      refine widX (by simp only [prc, rdO]; omega) (by simp only [prc, rdO]; omega) ?_
      exact vx_ret (retW_a hx hb hr (Or.inl ⟨_, rfl⟩) hlocks hP hD hS ⟨_, _, qp, _, rfl, rfl, Or.inl ⟨r1, List.mem_singleton.mpr rfl, rfl⟩, ⟨13, _, _, List.mem_singleton.mpr rfl, rfl, zN_of q2524 rfl⟩, rfl⟩ dX1_onePart_29)
  | false =>
    have hrun := mif_n (by decide) hrun
    obtain ⟨s1, hw, hrun⟩ := mob_s rfl hrun
    obtain ⟨hw1, ⟨b, a, hwd⟩, hA2⟩ := gWd_s hw
    have hab : a - b < 2 ^ 31 := by have := hwd.2.2.2.1; omega
    cases hfc : facL (fun i => wdIs s1 (fcS i)) 7 0 with
    | none =>
      have hrun := mqn_n hfc hrun
      cases hrun
      refine CtX.of (by decide) (Nat.le_of_ble_eq_true rfl) ?_
      intro p e9 s m args below meth c A hE hnoh hA hP hD hS hz ls hl
      obtain ⟨hx, hb, hr, hml, hown, hts, hlocks, hname⟩ := hE
      have hown : s.vm.findClass RX1 = some m.cls := hown
      have hK := hOK.1 _ _ _ hz
      have hN := hOK.2.1 _ _ _ hz
      have hl : lv_has ls 2 [(0, .ref (ah 0))] := hl
      refine lv_aload_n hx hb dX1_onePart_0 rfl (lv_at hl 0 rfl) ?_
      refine va_get (ci := 1) (v := .ref (ard 0)) (C := RX1) (T := TX1) (N := 10) hx hb hts in_X1 hown hK hP 0 rfl rfl 4 (by decide) (hts _ q375) (fun _ h9 => h9) rfl dX1_onePart_1 ?_
      have hP : va_P D zCl ((cH k ah aw adr aim ard asc ath awl alo atr sh) ++ (cR k ard srd)) _ := hP
      have hD : va_D A ((cH k ah aw adr aim ard asc ath awl alo atr sh) ++ (cR k ard srd)) := hD
      refine cWVP (cH k ah aw adr aim ard asc ath awl alo atr sh) (cR k ard srd) (As := []) (ci := 3) ⟨hx, hb, hml, hown, hts⟩ hOK hz hS hA hP hD (mtX3_isFigure l D k ard Z hOK srd _ s0 hf1) (kX3_isFigure hts q1407 rfl rfl ⟨Nat.le_of_ble_eq_true rfl, Nat.le_of_ble_eq_true rfl⟩) 0 rfl rfl rfl hl.1 rfl (lv_room (Nat.le_of_ble_eq_true rfl)) ⟨(by simp only [rP, rLs, prc, rdO]; omega), (by simp only [rP, rLs, prc, rdO]; omega)⟩ dX1_onePart_4 (fun r_ w_ H locs hq hP hD hS => ?_)
      obtain ⟨rfl, rfl⟩ := hq
      refine lv_if_eq (tgt := 30) hx hb dX1_onePart_7 (by decide) (fun _ => ?_) (fun c1 => absurd rfl c1)
      refine lv_aload_n hx hb dX1_onePart_30 rfl (lv_at hl 0 rfl) ?_
      refine va_get (ci := 1) (v := .ref (ard 0)) (C := RX1) (T := TX1) (N := 10) hx hb hts in_X1 hown hK hP 0 rfl rfl 4 (by decide) (hts _ q375) (fun _ h9 => h9) rfl dX1_onePart_31 ?_
      have hP : va_P D zCl ((cH k ah aw adr aim ard asc ath awl alo atr sh) ++ (cR k ard s0)) _ := hP
      have hD : va_D A ((cH k ah aw adr aim ard asc ath awl alo atr sh) ++ (cR k ard s0)) := hD
      refine cWVP (cH k ah aw adr aim ard asc ath awl alo atr sh) (cR k ard s0) (As := []) (ci := 3) ⟨hx, hb, hml, hown, hts⟩ hOK hz hS hA hP hD (mtX3_word l D k ard Z hOK (fun A U H h => (hStr A U H h).2.2.1) hPv s0 s1 hw1 b a hwd) (kX3_word hts q783 rfl rfl ⟨Nat.le_of_ble_eq_true rfl, Nat.le_of_ble_eq_true rfl⟩) 0 rfl rfl rfl hl.1 rfl (lv_room (Nat.le_of_ble_eq_true rfl)) ⟨(by simp only [rP, rLs, prc, rdO]; omega), (by simp only [rP, rLs, prc, rdO]; omega)⟩ dX1_onePart_34 (fun r_ w_ H locs hq hP hD hS => ?_)
      obtain ⟨q, v1, f1, rfl, hF1, hf9, rfl⟩ := hq
      have hP : va_P D zCl (((cH k ah aw adr aim ard asc ath awl alo atr sh) ++ (cR k ard s1)) ++ ((strC k q v1 (a - b) 0 false f1) ++ [])) _ := hP
      have hD : va_D A (((cH k ah aw adr aim ard asc ath awl alo atr sh) ++ (cR k ard s1)) ++ ((strC k q v1 (a - b) 0 false f1) ++ [])) := hD
      have hfe : facP (a - b) f1 = fun i => wdIs s1 (fcS i) := funext fun i => wdIs_of hwd hf9
      refine cWS ((cH k ah aw adr aim ard asc ath awl alo atr sh) ++ (cR k ard s1)) (strC k q v1 (a - b) 0 false f1) [] (As := [.ref q]) ⟨hx, hb, hml, hown, hts⟩ hOK hz hS hA hP hD (mtX15_of l D k Z hOK6 hVl hStr q v1 (a - b) f1 hab) (kX15_of hts q1424 rfl rfl ⟨Nat.le_of_ble_eq_true rfl, Nat.le_of_ble_eq_true rfl⟩) rfl hl.1 rfl (lv_room (Nat.le_of_ble_eq_true rfl)) ⟨(by simp only [rP, rLs, prc, rdO]; omega), (by simp only [rP, rLs, prc, rdO]; omega)⟩ dX1_onePart_37 (fun r_ w_ H locs hq hP hD hS => ?_)
      obtain ⟨rfl, rfl⟩ := hq
      rw [hfe, hfc]
      refine lv_astore_nN (lv' := [(1, .null), (0, .ref (ah 0))]) hx hb dX1_onePart_40 rfl hl (by decide) rfl (fun ls hl => ?_)
      refine lv_aload_nN hx hb dX1_onePart_41 rfl (lv_at hl 0 rfl) ?_
      refine lv_ifnonnullN hx hb dX1_onePart_42 ?_
      refine lv_aload_n hx hb dX1_onePart_45 rfl (lv_at hl 1 rfl) ?_
      refine va_get (ci := 1) (v := .ref (ard 0)) (C := RX1) (T := TX1) (N := 10) hx hb hts in_X1 hown hK hP 0 rfl rfl 4 (by decide) (hts _ q375) (fun _ h9 => h9) rfl dX1_onePart_46 ?_
      have hP : va_P D zCl ((cH k ah aw adr aim ard asc ath awl alo atr sh) ++ ((cR k ard s1) ++ (strC k q v1 (a - b) 0 false f1))) _ := hP
      have hD : va_D A ((cH k ah aw adr aim ard asc ath awl alo atr sh) ++ ((cR k ard s1) ++ (strC k q v1 (a - b) 0 false f1))) := hD
      refine cWV (cH k ah aw adr aim ard asc ath awl alo atr sh) (cR k ard s1) (strC k q v1 (a - b) 0 false f1) (As := []) (ci := 3) ⟨hx, hb, hml, hown, hts⟩ hOK hz hS hA hP hD (mtX3_wrongR l D k Z hOK hTh ard s1) (kX3_wrong hts q1113 rfl rfl ⟨Nat.le_of_ble_eq_true rfl, Nat.le_of_ble_eq_true rfl⟩) 0 rfl rfl rfl hl.1 rfl (lv_room (Nat.le_of_ble_eq_true rfl)) ⟨(by simp only [rP, rLs, prc, rdO]; omega), (by simp only [rP, rLs, prc, rdO]; omega)⟩ dX1_onePart_49 (fun r_ w_ H locs hq hP hD hS => ?_)
      obtain ⟨qw_, rfl, rfl⟩ := hq
      obtain ⟨ce_, hce_, hcv_, hcl_⟩ := zWr hK hP 3 rfl
      refine vx_athrow hx hb dX1_onePart_52 ?_
      have hP := hP.sub (ws' := ((cH k ah aw adr aim ard asc ath awl alo atr sh) ++ (cR k ard s1))) [0, 1, 2] rfl
      have hD := hD.sub (ws' := ((cH k ah aw adr aim ard asc ath awl alo atr sh) ++ (cR k ard s1))) [0, 1, 2] (by decide) rfl
      exact zout hnoh hlocks hce_ hcv_ hcl_ hP hD hS ⟨_, rfl, rfl⟩ (by simp only [prc, rdO]; omega) (by simp only [prc, rdO]; omega)
    | some i =>
      have hrun := mqn_s hfc hrun
      cases hrun
      have hi9 : i < 7 := by have := facL_lt _ _ _ _ hfc; omega
      refine CtX.of (by decide) (Nat.le_of_ble_eq_true rfl) ?_
      intro p e9 s m args below meth c A hE hnoh hA hP hD hS hz ls hl
      obtain ⟨hx, hb, hr, hml, hown, hts, hlocks, hname⟩ := hE
      have hown : s.vm.findClass RX1 = some m.cls := hown
      have hK := hOK.1 _ _ _ hz
      have hN := hOK.2.1 _ _ _ hz
      have hl : lv_has ls 2 [(0, .ref (ah 0))] := hl
      refine lv_aload_n hx hb dX1_onePart_0 rfl (lv_at hl 0 rfl) ?_
      refine va_get (ci := 1) (v := .ref (ard 0)) (C := RX1) (T := TX1) (N := 10) hx hb hts in_X1 hown hK hP 0 rfl rfl 4 (by decide) (hts _ q375) (fun _ h9 => h9) rfl dX1_onePart_1 ?_
      have hP : va_P D zCl ((cH k ah aw adr aim ard asc ath awl alo atr sh) ++ (cR k ard srd)) _ := hP
      have hD : va_D A ((cH k ah aw adr aim ard asc ath awl alo atr sh) ++ (cR k ard srd)) := hD
      refine cWVP (cH k ah aw adr aim ard asc ath awl alo atr sh) (cR k ard srd) (As := []) (ci := 3) ⟨hx, hb, hml, hown, hts⟩ hOK hz hS hA hP hD (mtX3_isFigure l D k ard Z hOK srd _ s0 hf1) (kX3_isFigure hts q1407 rfl rfl ⟨Nat.le_of_ble_eq_true rfl, Nat.le_of_ble_eq_true rfl⟩) 0 rfl rfl rfl hl.1 rfl (lv_room (Nat.le_of_ble_eq_true rfl)) ⟨(by simp only [rP, rLs, prc, rdO]; omega), (by simp only [rP, rLs, prc, rdO]; omega)⟩ dX1_onePart_4 (fun r_ w_ H locs hq hP hD hS => ?_)
      obtain ⟨rfl, rfl⟩ := hq
      refine lv_if_eq (tgt := 30) hx hb dX1_onePart_7 (by decide) (fun _ => ?_) (fun c1 => absurd rfl c1)
      refine lv_aload_n hx hb dX1_onePart_30 rfl (lv_at hl 0 rfl) ?_
      refine va_get (ci := 1) (v := .ref (ard 0)) (C := RX1) (T := TX1) (N := 10) hx hb hts in_X1 hown hK hP 0 rfl rfl 4 (by decide) (hts _ q375) (fun _ h9 => h9) rfl dX1_onePart_31 ?_
      have hP : va_P D zCl ((cH k ah aw adr aim ard asc ath awl alo atr sh) ++ (cR k ard s0)) _ := hP
      have hD : va_D A ((cH k ah aw adr aim ard asc ath awl alo atr sh) ++ (cR k ard s0)) := hD
      refine cWVP (cH k ah aw adr aim ard asc ath awl alo atr sh) (cR k ard s0) (As := []) (ci := 3) ⟨hx, hb, hml, hown, hts⟩ hOK hz hS hA hP hD (mtX3_word l D k ard Z hOK (fun A U H h => (hStr A U H h).2.2.1) hPv s0 s1 hw1 b a hwd) (kX3_word hts q783 rfl rfl ⟨Nat.le_of_ble_eq_true rfl, Nat.le_of_ble_eq_true rfl⟩) 0 rfl rfl rfl hl.1 rfl (lv_room (Nat.le_of_ble_eq_true rfl)) ⟨(by simp only [rP, rLs, prc, rdO]; omega), (by simp only [rP, rLs, prc, rdO]; omega)⟩ dX1_onePart_34 (fun r_ w_ H locs hq hP hD hS => ?_)
      obtain ⟨q, v1, f1, rfl, hF1, hf9, rfl⟩ := hq
      have hP : va_P D zCl (((cH k ah aw adr aim ard asc ath awl alo atr sh) ++ (cR k ard s1)) ++ ((strC k q v1 (a - b) 0 false f1) ++ [])) _ := hP
      have hD : va_D A (((cH k ah aw adr aim ard asc ath awl alo atr sh) ++ (cR k ard s1)) ++ ((strC k q v1 (a - b) 0 false f1) ++ [])) := hD
      have hfe : facP (a - b) f1 = fun i => wdIs s1 (fcS i) := funext fun i => wdIs_of hwd hf9
      refine cWS ((cH k ah aw adr aim ard asc ath awl alo atr sh) ++ (cR k ard s1)) (strC k q v1 (a - b) 0 false f1) [] (As := [.ref q]) ⟨hx, hb, hml, hown, hts⟩ hOK hz hS hA hP hD (mtX15_of l D k Z hOK6 hVl hStr q v1 (a - b) f1 hab) (kX15_of hts q1424 rfl rfl ⟨Nat.le_of_ble_eq_true rfl, Nat.le_of_ble_eq_true rfl⟩) rfl hl.1 rfl (lv_room (Nat.le_of_ble_eq_true rfl)) ⟨(by simp only [rP, rLs, prc, rdO]; omega), (by simp only [rP, rLs, prc, rdO]; omega)⟩ dX1_onePart_37 (fun r_ w_ H locs hq hP hD hS => ?_)
      obtain ⟨rfl, rfl⟩ := hq
      rw [hfe, hfc]
      refine lv_astore_n (lv' := [(1, .ref (aF i)), (0, .ref (ah 0))]) hx hb dX1_onePart_40 rfl hl (by decide) rfl (fun ls hl => ?_)
      refine lv_aload_n hx hb dX1_onePart_41 rfl (lv_at hl 0 rfl) ?_
      refine lv_ifnonnull (tgt := 53) hx hb dX1_onePart_42 (by decide) ?_
      have hP := zdropP (x := ((cH k ah aw adr aim ard asc ath awl alo atr sh) ++ (cR k ard s1))) (y := ((strC k q v1 (a - b) 0 false f1) ++ [])) hP
      have hD := zdropD (x := ((cH k ah aw adr aim ard asc ath awl alo atr sh) ++ (cR k ard s1))) (y := ((strC k q v1 (a - b) 0 false f1) ++ [])) hD
      refine va_new (ci := 13) (fs := [.int 0, .null]) (C := RX14) (T := TX14) (N := 2) hx hb hts in_X14 tyX14 tyX14_ok hown (hts _ q1411) (hts _ q1412) (hts _ q140) hK hP hD hS hA rfl (zdef 2 tyX14) (by simp only [rP, rLs, prc, rdO]; omega) (by simp only [rP, rLs, prc, rdO]; omega) dX1_onePart_53 (fun qp H hP hD hS => ?_)
      refine lv_dup hx hb dX1_onePart_56 rfl ?_
      refine lv_iconst (v := (0 : Int32)) hx hb dX1_onePart_57 (by decide) ?_
      refine lv_aload_n hx hb dX1_onePart_58 rfl (lv_at hl 0 rfl) ?_
      have hP : va_P D zCl (((cH k ah aw adr aim ard asc ath awl alo atr sh) ++ (cR k ard s1)) ++ ([(qp, .inr (13, [.int 0, .null]))] ++ [])) _ := hP
      have hD : va_D A (((cH k ah aw adr aim ard asc ath awl alo atr sh) ++ (cR k ard s1)) ++ ([(qp, .inr (13, [.int 0, .null]))] ++ [])) := hD
      refine cWI ((cH k ah aw adr aim ard asc ath awl alo atr sh) ++ (cR k ard s1)) [(qp, .inr (13, [.int 0, .null]))] [] (As := [.int (0 : Int32), va_rf (some (aF i))]) ⟨hx, hb, hml, hown, hts⟩ hOK hz hS hA hP hD (mtX14_init l D k Z hOK qp 0 (some (aF i))) (kX14_init hts q1413 rfl rfl ⟨Nat.le_of_ble_eq_true rfl, Nat.le_of_ble_eq_true rfl⟩) rfl hl.1 rfl (lv_room (Nat.le_of_ble_eq_true rfl)) ⟨(by simp only [rP, rLs, prc, rdO]; omega), (by simp only [rP, rLs, prc, rdO]; omega)⟩ dX1_onePart_59 (fun r_ w_ H locs hq hP hD hS => ?_)
      obtain ⟨rfl, rfl⟩ := hq
      have hP : va_P D zCl (((cH k ah aw adr aim ard asc ath awl alo atr sh) ++ (cR k ard s1)) ++ [(qp, .inr (13, [.int (0 : Int32), va_rf (some (aF i))]))]) _ := hP
      have hD : va_D A (((cH k ah aw adr aim ard asc ath awl alo atr sh) ++ (cR k ard s1)) ++ [(qp, .inr (13, [.int (0 : Int32), va_rf (some (aF i))]))]) := hD
      refine widX (by simp only [prc, rdO]; omega) (by simp only [prc, rdO]; omega) ?_
      exact vx_ret (retW_a hx hb hr (Or.inl ⟨_, rfl⟩) hlocks hP hD hS ⟨_, _, qp, _, rfl, rfl, Or.inr ⟨i, 0, hi9, List.mem_singleton.mpr rfl, rfl⟩, ⟨13, _, _, List.mem_singleton.mpr rfl, rfl, zN_of q2524 rfl⟩, rfl⟩ dX1_onePart_62)
noncomputable def fX1_sumL : Nat → Rd → List (Sc → Int32) → Option ((String × Rd) ⊕ (List (Sc → Int32) × Rd))
  | 0, _, _ => none
  | n + 1, s, gs => mox (fX1_onePart s) (fun E => some (.inl E)) fun q => mo2 (gSign q.2 (43 : Int32)) fun b s2 => if b = true then fX1_sumL n s2 (gs ++ [q.1]) else some (.inr (gs ++ [q.1], s2))
noncomputable def fX1_sum (srd : Rd) : Option ((String × Rd) ⊕ ((Sc → Int32) × Rd)) := mox (fX1_sumL mFU srd []) (fun E => some (.inl E)) fun q => some (.inr (sumV q.1, q.2))
theorem sumL_m : ∀ (n : Nat) (s : Rd) (gs : List (Sc → Int32)) (o : (String × Rd) ⊕ (List (Sc → Int32) × Rd)), fX1_sumL n s gs = some o → rA s ≤ rA (rdO o) ∧ rA (rdO o) ≤ 400
  | 0, _, _, _, h => nomatch h
  | n + 1, s, gs, o, h => by
    rw [fX1_sumL.eq_2] at h
    obtain ⟨o1, h1, h⟩ := mox_s rfl h
    have hm := onePart_m h1
    cases o1 with
    | inl E =>
      have h := moxl h
      cases h
      exact hm
    | inr q =>
      have h := moxr h
      obtain ⟨b, s2, h2, h⟩ := mo2_s rfl h
      have h3 := (gSign_s h2).2
      have hm : rA s ≤ rA q.2 ∧ rA q.2 ≤ 400 := hm
      cases b with
      | true =>
        have h4 := sumL_m n s2 _ o (mif_p rfl h)
        rw [if_pos rfl] at h3
        omega
      | false =>
        have h := mif_n (by decide) h
        cases h
        rw [if_neg (by decide)] at h3
        show rA s ≤ rA s2 ∧ rA s2 ≤ 400
        omega
theorem sum_m {srd : Rd} {o : (String × Rd) ⊕ ((Sc → Int32) × Rd)} (h : fX1_sum srd = some o) : rA srd ≤ rA (rdO o) ∧ rA (rdO o) ≤ 400 := by
  unfold fX1_sum at h
  obtain ⟨o1, h1, h⟩ := mox_s rfl h
  have hm := sumL_m _ _ _ _ h1
  cases o1 with
  | inl E =>
    have h := moxl h
    cases h
    exact hm
  | inr q =>
    have h := moxr h
    cases h
    exact hm
theorem kX1_sum {R : Room} {s : State} {args : Array Value} {own : String} {idx mc ms : Nat} {rm : Room} (hts : ∀ w ∈ lw_all, w.before args s = true) (hl : Cond.methodLink own idx yX1_sum ∈ lw_all) (hrc : rm.cells = mc) (hrs : rm.slots = ms) (hR : rm.frames + 1 ≤ R.frames ∧ 8 + (2 + 11) + rm.locals ≤ R.locals) : CallW R s args own RX1 idx yX1_sum cX1_sum 2 (some (.object "SaturdayKeep$Sum")) (ws_ yX1_sum cX1_sum 2 (some (.object "SaturdayKeep$Sum"))) rm mc ms 0 :=
  cwV 0 hts (lw_V hl q1388 qs29 q107 q1389) rfl hrc hrs (by decide +kernel) hR
set_option maxRecDepth 100000 in
theorem mtX1_sum (l : Launch) (D : va_G) (k : Nat → ClassId) (ah aw adr aim ard asc ath awl alo atr : Nat → Nat) (Z : zZ) (hOK6 : zOK D zCl (zTy6 k) Z) (hlt : l.stackTraces = false) (hTh : zTh Z) {adK adV : Nat → Nat} (hStr : zStr Z adK adV) (hPv : zPv Z) {e0 mi : Nat} (hLs : zLs Z e0 mi) {aF : Nat → Nat} {vq : Nat} (hVl : zVl k Z aF adK vq) (sh : Kp) (srd : Rd) (o : (String × Rd) ⊕ ((Sc → Int32) × Rd)) (hrun : fX1_sum srd = some o) : CtX l yX1_sum cX1_sum 2 (some (.object "SaturdayKeep$Sum")) (rP 11 460 15 1640 srd o) Z D zCl ((cH k ah aw adr aim ard asc ath awl alo atr sh) ++ (cR k ard srd)) [.ref (ah 0)] (fun r' w' => ∃ g ord q np, o = .inr (g, ord) ∧ r' = some (.ref q) ∧ smAt k e0 aF np q g ∧ w' = (((cH k ah aw adr aim ard asc ath awl alo atr sh) ++ (cR k ard ord)) ++ np)) (fun E' w' => ∃ ord, o = .inl (E', ord) ∧ w' = ((cH k ah aw adr aim ard asc ath awl alo atr sh) ++ (cR k ard ord))) (prc 50 15 srd o) (prc 5500 1640 srd o) := by
  have hOK := zOK6 hOK6
  refine CtX.of (by decide) (Nat.le_of_ble_eq_true rfl) ?_
  intro p e9 s m args below meth c A hE hnoh hA hP hD hS hz ls hl
  obtain ⟨hx, hb, hr, hml, hown, hts, hlocks, hname⟩ := hE
  have hown : s.vm.findClass RX1 = some m.cls := hown
  have hK := hOK.1 _ _ _ hz
  have hN := hOK.2.1 _ _ _ hz
  have hl : lv_has ls 2 [(0, .ref (ah 0))] := hl
  unfold fX1_sum at hrun
  obtain ⟨o1, h1, hrun⟩ := mox_s rfl hrun
  have hmo := sumL_m _ _ _ _ h1
  have hrd : rdO o = rdO o1 := by
    cases o1 with
    | inl E => have hrun := moxl hrun; cases hrun; rfl
    | inr q => have hrun := moxr hrun; cases hrun; rfl
  refine va_new (ci := 12) (fs := [.null]) (C := RX13) (T := TX13) (N := 1) hx hb hts in_X13 tyX13 tyX13_ok hown (hts _ q1390) (hts _ q1391) (hts _ q139) hK hP hD hS hA rfl (zdef 1 tyX13) (by simp only [rP, rLs, prc, rdO]; omega) (by simp only [rP, rLs, prc, rdO]; omega) dX1_sum_0 (fun qs H hP hD hS => ?_)
  refine lv_dup hx hb dX1_sum_3 rfl ?_
  have hP : va_P D zCl (((cH k ah aw adr aim ard asc ath awl alo atr sh) ++ (cR k ard srd)) ++ ([(qs, .inr (12, [.null]))] ++ [])) _ := hP
  have hD : va_D A (((cH k ah aw adr aim ard asc ath awl alo atr sh) ++ (cR k ard srd)) ++ ([(qs, .inr (12, [.null]))] ++ [])) := hD
  refine cWIN ((cH k ah aw adr aim ard asc ath awl alo atr sh) ++ (cR k ard srd)) [(qs, .inr (12, [.null]))] [] (As := []) ⟨hx, hb, hml, hown, hts⟩ hOK hz hS hA hP hD (mtX13_init l D k Z hOK hLs qs) (kX13_initn hN hts (hN _ (zN_of q1392 rfl)) rfl rfl ⟨Nat.le_of_ble_eq_true rfl, Nat.le_of_ble_eq_true rfl⟩) rfl hl.1 rfl (lv_room (Nat.le_of_ble_eq_true rfl)) ⟨(by simp only [rP, rLs, prc, rdO]; omega), (by simp only [rP, rLs, prc, rdO]; omega)⟩ dX1_sum_4 (fun r_ w_ H locs hq hP hD hS => ?_)
  obtain ⟨ql, rfl, rfl⟩ := hq
  have hP : va_P D zCl ((cH k ah aw adr aim ard asc ath awl alo atr sh) ++ ((cR k ard srd) ++ ([(qs, .inr (12, [.ref ql]))] ++ [lsO ql e0 0 0]))) _ := hP
  have hD : va_D A ((cH k ah aw adr aim ard asc ath awl alo atr sh) ++ ((cR k ard srd) ++ ([(qs, .inr (12, [.ref ql]))] ++ [lsO ql e0 0 0]))) := hD
  refine lv_astore_n (lv' := [(1, .ref qs), (0, .ref (ah 0))]) hx hb dX1_sum_7 rfl hl (by decide) rfl (fun ls hl => ?_)
  have key : ∀ (n : Nat) (st : Rd) (gs : List (Sc → Int32)) (els : List Nat) (xs ww : va_W) (V U : Nat), fX1_sumL n st gs = some o1 → LC k e0 ql els xs ww → pw (prAt aF xs) els gs → (∀ y ∈ els, elIn xs y) → rA srd + els.length ≤ rA st → (els = [] → V ≤ 2 + 50 * (rA st - rA srd) ∧ U ≤ 4 + 5500 * (rA st - rA srd)) → (els ≠ [] → V + 30 ≤ 2 + 50 * (rA st - rA srd) ∧ U + 3000 ≤ 4 + 5500 * (rA st - rA srd)) → ∀ (H : Heap) (locs : List Loc), va_P D zCl ((cH k ah aw adr aim ard asc ath awl alo atr sh) ++ ((cR k ard st) ++ ([(qs, .inr (12, [.ref ql]))] ++ ww))) H → va_D A ((cH k ah aw adr aim ard asc ath awl alo atr sh) ++ ((cR k ard st) ++ ([(qs, .inr (12, [.ref ql]))] ++ ww))) → va_S A s.heap H locs → ∀ ls : Array Slot, lv_has ls 2 [(1, .ref qs), (0, .ref (ah 0))] → W p l e9 (rP 11 460 15 1640 srd o) s m args below meth c H locs V U (vx_MQ below (QWr (fun r' w' => ∃ g ord q np, o = .inr (g, ord) ∧ r' = some (.ref q) ∧ smAt k e0 aF np q g ∧ w' = (((cH k ah aw adr aim ard asc ath awl alo atr sh) ++ (cR k ard ord)) ++ np)) D zCl A) (QXr (fun E' w' => ∃ ord, o = .inl (E', ord) ∧ w' = ((cH k ah aw adr aim ard asc ath awl alo atr sh) ++ (cR k ard ord))) D zCl A) args s (prc 50 15 srd o) (prc 5500 1640 srd o) A) (F0 m 8 ls []) := by
    intro n
    induction n with
    | zero =>
      intro st gs els xs ww V U h2
      exact nomatch h2
    | succ n ih =>
      intro st gs els xs ww V U h2 hL hpw hel hlen hb0 hb1 H locs hP hD hS ls hl
      rw [fX1_sumL.eq_2] at h2
      obtain ⟨o2, h3, h2⟩ := mox_s rfl h2
      have hm2 := onePart_m h3
      have hm3 := sumL_m (n + 1) st gs o1 (by rw [fX1_sumL.eq_2, h3]; exact h2)
      have hUV : V ≤ 2 + 50 * (rA st - rA srd) ∧ U ≤ 4 + 5500 * (rA st - rA srd) := by
        by_cases q : els = []
        · exact hb0 q
        · have := hb1 q; omega
      refine lv_aload_n hx hb dX1_sum_8 rfl (lv_at hl 0 rfl) ?_
      refine va_getN (ci := 12) (v := .ref ql) (C := RX13) (T := TX13) (N := 1) hx hb hts in_X13 hown hK hP 3 rfl rfl 0 (by decide) (va_Nw.use rfl (hN _ (zN_of q1399 rfl))) (fun _ h9 => h9) rfl dX1_sum_9 ?_
      refine lv_aload_n hx hb dX1_sum_12 rfl (lv_at hl 1 rfl) ?_
      have hP : va_P D zCl ([] ++ (((cH k ah aw adr aim ard asc ath awl alo atr sh) ++ (cR k ard st)) ++ ([(qs, .inr (12, [.ref ql]))] ++ ww))) _ := hP
      have hD : va_D A ([] ++ (((cH k ah aw adr aim ard asc ath awl alo atr sh) ++ (cR k ard st)) ++ ([(qs, .inr (12, [.ref ql]))] ++ ww))) := hD
      cases o2 with
      | inl E =>
        obtain ⟨E1, s1⟩ := E
        have h2 := moxl h2
        cases h2
        have hrun := moxl hrun
        cases hrun
        have hm2 : rA st ≤ rA s1 ∧ rA s1 ≤ 400 := hm2
        refine cXV [] ((cH k ah aw adr aim ard asc ath awl alo atr sh) ++ (cR k ard st)) ([(qs, .inr (12, [.ref ql]))] ++ ww) (As := []) (ci := 1) ⟨hx, hb, hml, hown, hts⟩ hOK hz hS hA hP hD (mtX1_onePart l D k ah aw adr aim ard asc ath awl alo atr Z hOK6 hlt hTh hStr hPv hLs hVl sh st _ h3) (kX1_onePart hts q1403 rfl rfl ⟨Nat.le_of_ble_eq_true rfl, Nat.le_of_ble_eq_true rfl⟩) 0 rfl rfl rfl hl.1 rfl (lv_room (Nat.le_of_ble_eq_true rfl)) ⟨(by simp only [rP, rLs, prc, rdO]; omega), (by simp only [rP, rLs, prc, rdO]; omega)⟩ dX1_sum_13 (fun E_ w_ ce_ q9_ H locs hq hP hD hS hce hcv hcl => ?_) (fun r_ w_ H locs hq hP hD hS => ?_)
        · obtain ⟨ord, he, rfl⟩ := hq
          cases he
          have hP : va_P D zCl (((cH k ah aw adr aim ard asc ath awl alo atr sh) ++ (cR k ard s1)) ++ ([(qs, .inr (12, [.ref ql]))] ++ ww)) _ := hP
          have hD : va_D A (((cH k ah aw adr aim ard asc ath awl alo atr sh) ++ (cR k ard s1)) ++ ([(qs, .inr (12, [.ref ql]))] ++ ww)) := hD
          have hP := zdropP (x := ((cH k ah aw adr aim ard asc ath awl alo atr sh) ++ (cR k ard s1))) (y := ([(qs, .inr (12, [.ref ql]))] ++ ww)) hP
          have hD := zdropD (x := ((cH k ah aw adr aim ard asc ath awl alo atr sh) ++ (cR k ard s1))) (y := ([(qs, .inr (12, [.ref ql]))] ++ ww)) hD
          exact zout hnoh hlocks hce hcv hcl hP hD hS ⟨_, rfl, rfl⟩ (by simp only [prc, rdO]; omega) (by simp only [prc, rdO]; omega)
        · obtain ⟨g, ord, q, np, he, rfl, hp, hel9, rfl⟩ := hq
          exact nomatch he
      | inr q =>
        obtain ⟨g, s1⟩ := q
        have h2 := moxr h2
        obtain ⟨b, s2, h4, h2⟩ := mo2_s rfl h2
        obtain ⟨h5, hA5⟩ := gSign_s h4
        have hm2 : rA st ≤ rA s1 ∧ rA s1 ≤ 400 := hm2
        have hA6 : rA s1 ≤ rA s2 := Nat.le_trans (Nat.le_add_right _ _) hA5.1
        have hm6 : rA s2 ≤ rA (rdO o1) := by
          cases b with
          | true => exact (sumL_m _ _ _ _ (mif_p rfl h2)).1
          | false => have h2 := mif_n (by decide) h2; cases h2; exact Nat.le_refl _
        have hRe : rA (rdO o) = rA (rdO o1) := by rw [hrd]
        refine cXV [] ((cH k ah aw adr aim ard asc ath awl alo atr sh) ++ (cR k ard st)) ([(qs, .inr (12, [.ref ql]))] ++ ww) (As := []) (ci := 1) ⟨hx, hb, hml, hown, hts⟩ hOK hz hS hA hP hD (mtX1_onePart l D k ah aw adr aim ard asc ath awl alo atr Z hOK6 hlt hTh hStr hPv hLs hVl sh st _ h3) (kX1_onePart hts q1403 rfl rfl ⟨Nat.le_of_ble_eq_true rfl, Nat.le_of_ble_eq_true rfl⟩) 0 rfl rfl rfl hl.1 rfl (lv_room (Nat.le_of_ble_eq_true rfl)) ⟨(by simp only [rP, rLs, prc]; show _ + (_ * (rA s1 - rA st) + _) ≤ _; omega), (by simp only [rP, rLs, prc]; show _ + (_ * (rA s1 - rA st) + _) ≤ _; omega)⟩ dX1_sum_13 (fun E_ w_ ce_ q9_ H locs hq hP hD hS hce hcv hcl => ?_) (fun r_ w_ H locs hq hP hD hS => ?_)
        · obtain ⟨ord, he, rfl⟩ := hq
          exact nomatch he
        obtain ⟨g9, ord, qn, np, he, rfl, hp, hel9, rfl⟩ := hq
        cases he
        refine W.widen (k := V + (50 * (rA s1 - rA st) + 12)) (n := U + (5500 * (rA s1 - rA st) + 1620)) (Nat.le_refl _) (Nat.le_refl _) ?_
        have hP : va_P D zCl (zcat [(cH k ah aw adr aim ard asc ath awl alo atr sh), (cR k ard s1), np, [(qs, .inr (12, [.ref ql]))], ww]) _ := hP
        have hD : va_D A (zcat [(cH k ah aw adr aim ard asc ath awl alo atr sh), (cR k ard s1), np, [(qs, .inr (12, [.ref ql]))], ww]) := hD
        have hP := zbP [(cH k ah aw adr aim ard asc ath awl alo atr sh), (cR k ard s1), np, [(qs, .inr (12, [.ref ql]))], ww] 5 [0, 1, 3, 4, 2] hP rfl (by decide)
        have hD := zbD [(cH k ah aw adr aim ard asc ath awl alo atr sh), (cR k ard s1), np, [(qs, .inr (12, [.ref ql]))], ww] 5 [0, 1, 3, 4, 2] hD rfl (by decide)
        have hP : va_P D zCl (((cH k ah aw adr aim ard asc ath awl alo atr sh) ++ ((cR k ard s1) ++ [(qs, .inr (12, [.ref ql]))])) ++ (ww ++ np)) _ := hP
        have hD : va_D A (((cH k ah aw adr aim ard asc ath awl alo atr sh) ++ ((cR k ard s1) ++ [(qs, .inr (12, [.ref ql]))])) ++ (ww ++ np)) := hD
        have hsub : ∀ x ∈ np, x ∈ xs ++ np := fun x hx => List.mem_append_right _ hx
        have hsub2 : ∀ x ∈ xs, x ∈ xs ++ np := fun x hx => List.mem_append_left _ hx
        have hads : adS els ≤ 602 ∧ (els = [] → adS els = 10) := by
          cases els with
          | nil => exact ⟨by decide, fun _ => rfl⟩
          | cons _ _ => exact ⟨Nat.le_refl _, fun z => nomatch z⟩
        have hroom : V + (50 * (rA s1 - rA st) + 12) + 1 ≤ (rP 11 460 15 1640 srd o).cells ∧ U + (5500 * (rA s1 - rA st) + 1620) + adS els ≤ (rP 11 460 15 1640 srd o).slots := by
          simp only [rP, rLs, prc]
          by_cases q : els = []
          · have := hb0 q
            have := hads.2 q
            omega
          · have := hb1 q
            omega
        refine cAdd ((cH k ah aw adr aim ard asc ath awl alo atr sh) ++ ((cR k ard s1) ++ [(qs, .inr (12, [.ref ql]))])) (hL.ext np) (by omega) (fun y hy => (hel y hy).mono hsub2) (hel9.mono hsub) ⟨hx, hb, hml, hown, hts⟩ hOK hLs hz hS hA hP hD q1439 ⟨Nat.le_of_ble_eq_true rfl, Nat.le_of_ble_eq_true rfl⟩ hl.1 (lv_room (Nat.le_of_ble_eq_true rfl)) hroom dX1_sum_16 (fun w2 H locs hL2 hP hD hS => ?_)
        have hP : va_P D zCl ((cH k ah aw adr aim ard asc ath awl alo atr sh) ++ ((cR k ard s1) ++ ([(qs, .inr (12, [.ref ql]))] ++ w2))) _ := hP
        have hD : va_D A ((cH k ah aw adr aim ard asc ath awl alo atr sh) ++ ((cR k ard s1) ++ ([(qs, .inr (12, [.ref ql]))] ++ w2))) := hD
        refine lv_pop hx hb dX1_sum_19 rfl ?_
        refine lv_aload_n hx hb dX1_sum_20 rfl (lv_at hl 1 rfl) ?_
        refine va_get (ci := 1) (v := .ref (ard 0)) (C := RX1) (T := TX1) (N := 10) hx hb hts in_X1 hown hK hP 0 rfl rfl 4 (by decide) (hts _ q375) (fun _ h9 => h9) rfl dX1_sum_21 ?_
        refine lv_bipush (v := (43 : Int32)) hx hb dX1_sum_24 (by decide) ?_
        have hP : va_P D zCl ((cH k ah aw adr aim ard asc ath awl alo atr sh) ++ ((cR k ard s1) ++ ([(qs, .inr (12, [.ref ql]))] ++ w2))) _ := hP
        have hD : va_D A ((cH k ah aw adr aim ard asc ath awl alo atr sh) ++ ((cR k ard s1) ++ ([(qs, .inr (12, [.ref ql]))] ++ w2))) := hD
        refine cWV (cH k ah aw adr aim ard asc ath awl alo atr sh) (cR k ard s1) ([(qs, .inr (12, [.ref ql]))] ++ w2) (As := [.int (43 : Int32)]) (ci := 3) ⟨hx, hb, hml, hown, hts⟩ hOK hz hS hA hP hD (mtX3_sign l D k ard Z hOK s1 43 _ s2 h5) (kX3_sign hts q1262 rfl rfl ⟨Nat.le_of_ble_eq_true rfl, Nat.le_of_ble_eq_true rfl⟩) 0 rfl rfl rfl hl.1 rfl (lv_room (Nat.le_of_ble_eq_true rfl)) ⟨hroom.1, hroom.2⟩ dX1_sum_26 (fun r_ w_ H locs hq hP hD hS => ?_)
        obtain ⟨rfl, rfl⟩ := hq
        have hP : va_P D zCl ((cH k ah aw adr aim ard asc ath awl alo atr sh) ++ ((cR k ard s2) ++ ([(qs, .inr (12, [.ref ql]))] ++ w2))) _ := hP
        have hD : va_D A ((cH k ah aw adr aim ard asc ath awl alo atr sh) ++ ((cR k ard s2) ++ ([(qs, .inr (12, [.ref ql]))] ++ w2))) := hD
        cases b with
        | true =>
          have hA7 : rA s1 + 1 ≤ rA s2 := by rw [if_pos rfl] at hA5; exact hA5.1
          refine lv_if_ne (tgt := 8) hx hb dX1_sum_29 (by decide) (fun _ => ?_) (fun c1 => absurd c1 (by decide))
          refine ih s2 (gs ++ [g]) (els ++ [qn]) (xs ++ np) w2 _ _ (mif_p rfl h2) hL2 ((hpw.imp fun x g h => h.mono hsub2).snoc (hp.mono hsub)) (fun y hy => ?_) (by rw [List.length_append]; show rA srd + (els.length + 1) ≤ _; omega) (fun z => by simp at z) (fun _ => ?_) H locs hP hD hS ls hl
          · rcases List.mem_append.mp hy with h | h
            · exact (hel y h).mono hsub2
            · rw [List.mem_singleton.mp h]
              exact hel9.mono hsub
          · by_cases q : els = []
            · have := hb0 q
              have := hads.2 q
              omega
            · have := hb1 q
              omega
        | false =>
          refine lv_if_ne (tgt := 8) hx hb dX1_sum_29 (by decide) (fun c1 => absurd rfl c1) (fun _ => ?_)
          have h2 := mif_n (by decide) h2
          cases h2
          have hrun := moxr hrun
          cases hrun
          refine lv_aload_n hx hb dX1_sum_32 rfl (lv_at hl 0 rfl) ?_
          have hP : va_P D zCl (((cH k ah aw adr aim ard asc ath awl alo atr sh) ++ (cR k ard s2)) ++ ([(qs, .inr (12, [.ref ql]))] ++ w2)) _ := hP
          have hD : va_D A (((cH k ah aw adr aim ard asc ath awl alo atr sh) ++ (cR k ard s2)) ++ ([(qs, .inr (12, [.ref ql]))] ++ w2)) := hD
          have hwin : ∀ x ∈ w2, x ∈ [(qs, .inr (12, [.ref ql]))] ++ w2 := fun x hx => List.mem_append_right _ hx
          refine W.widen (k := prc 50 15 srd (.inr (sumV (gs ++ [g]), s2))) (n := prc 5500 1640 srd (.inr (sumV (gs ++ [g]), s2))) hroom.1 hroom.2 ?_
          exact vx_ret (retW_a hx hb hr (Or.inl ⟨_, rfl⟩) hlocks hP hD hS ⟨_, _, qs, _, rfl, rfl, ⟨ql, els ++ [qn], gs ++ [g], List.mem_append_left _ (List.mem_singleton.mpr rfl), hL2.fin hwin, ((hpw.imp fun x g h => h.mono (fun y hy => hwin _ (hL2.sub _ (hsub2 y hy)))).snoc (hp.mono (fun y hy => hwin _ (hL2.sub _ (hsub y hy))))), rfl⟩, rfl⟩ dX1_sum_33)
  exact key mFU srd [] [] [] _ _ _ h1 (Or.inl ⟨rfl, 0, rfl⟩) pw.nil (fun y hy => by simp at hy) (by simp) (fun _ => by omega) (fun z => absurd rfl z) H locs hP hD hS ls hl
