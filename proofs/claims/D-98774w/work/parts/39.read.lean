/-! LINES OF THE HOUSE: parts -/
def rX1_roomTold : Room := { frames := 7, cells := 1, slots := 6, locals := 186 }
noncomputable def fX1_roomTold (sh : Kp) (srd : Rd) : Option ((String × Rd) ⊕ (Int32 × Rd)) :=
  mox (fX3_number srd (0 : Int32) (7 : Int32)) (fun E_5 => some (.inl (E_5.1, (E_5.2)))) fun q_6 =>
  some (.inr ((q_6.1), (q_6.2)))
theorem kX1_roomTold {R : Room} {s : State} {args : Array Value} {own : String} {idx mc ms : Nat} {rm : Room} (hts : ∀ w ∈ lw_all, w.before args s = true) (hl : Cond.methodLink own idx yX1_roomTold ∈ lw_all) (hrc : rm.cells = mc) (hrs : rm.slots = ms) (hR : rm.frames + 1 ≤ R.frames ∧ 8 + (1 + 11) + rm.locals ≤ R.locals) : CallW R s args own RX1 idx yX1_roomTold cX1_roomTold 1 (some .int) (ws_ yX1_roomTold cX1_roomTold 1 (some .int)) rm mc ms 0 :=
  cwV 0 hts (lw_V hl q1256 qs21 q107 q1257) rfl hrc hrs (by decide +kernel) hR
set_option maxHeartbeats 4000000 in
set_option maxRecDepth 100000 in
theorem mtX1_roomTold (l : Launch) (D : va_G) (k : Nat → ClassId) (ah : Nat → Nat) (aw : Nat → Nat) (adr : Nat → Nat) (aim : Nat → Nat) (ard : Nat → Nat) (asc : Nat → Nat) (ath : Nat → Nat) (awl : Nat → Nat) (alo : Nat → Nat) (atr : Nat → Nat) (Z : zZ) (hOK : zOK D zCl (zTys k) Z) (hlt : l.stackTraces = false) (hTh : zTh Z) (sh : Kp) (srd : Rd) (o : (String × Rd) ⊕ (Int32 × Rd)) (hrun : fX1_roomTold sh srd = some o) :
    CtX l yX1_roomTold cX1_roomTold 1 (some .int) rX1_roomTold Z D zCl ((cH k ah aw adr aim ard asc ath awl alo atr sh) ++ (cR k ard srd)) [.ref (ah 0)] (fun r' w' => ∃ (r : Int32) (ord : Rd), o = .inr (r, ord) ∧ r' = (some (.int r)) ∧ w' = ((cH k ah aw adr aim ard asc ath awl alo atr sh) ++ (cR k ard ord))) (fun E' w' => ∃ (ord : Rd), o = .inl (E', ord) ∧ w' = ((cH k ah aw adr aim ard asc ath awl alo atr sh) ++ (cR k ard ord))) 1 6 := by
  refine CtX.of (by decide) (Nat.le_of_ble_eq_true rfl) ?_
  intro p e s m args below meth c A hE hnoh hA hP hD hS hz ls hl
  obtain ⟨hx, hb, hr, hml, hown, hts, hlocks, hname⟩ := hE
  have hown : s.vm.findClass RX1 = some m.cls := hown
  have hK := hOK.1 _ _ _ hz
  have hN := hOK.2.1 _ _ _ hz
  have hl : lv_has ls 1 [(0, .ref (ah 0))] := hl
  unfold fX1_roomTold at hrun
  refine lv_aload_n hx hb dX1_roomTold_0 rfl (lv_at hl 0 rfl) ?_
  refine va_get (ci := 1) (v := .ref (ard 0)) (C := RX1) (T := TX1) (N := 10) hx hb hts in_X1 hown hK hP 0 rfl rfl 4 (by decide) (hts _ q375) (fun _ h9 => h9) rfl dX1_roomTold_1 ?_
  refine lv_iconst (v := (0 : Int32)) hx hb dX1_roomTold_4 (by decide) ?_
  refine lv_bipush (v := (7 : Int32)) hx hb dX1_roomTold_5 (by decide) ?_
  obtain ⟨o_2, hc_1, hrun⟩ := mox_s rfl hrun
  have hP := hP.sub (ws' := ([] ++ ((cR k ard srd) ++ (cH k ah aw adr aim ard asc ath awl alo atr sh)))) [1, 2, 0] rfl
  have hD := hD.sub (ws' := ([] ++ ((cR k ard srd) ++ (cH k ah aw adr aim ard asc ath awl alo atr sh)))) [1, 2, 0] (by decide) rfl
  refine cXV [] (cR k ard srd) (cH k ah aw adr aim ard asc ath awl alo atr sh) (As := [.int (0 : Int32), .int (7 : Int32)]) (ci := 3) ⟨hx, hb, hml, hown, hts⟩ hOK hz hS hA hP hD (mtX3_number l D k ard Z hOK hlt hTh _ _ _ o_2 hc_1) (kX3_number hts q1232 rfl rfl ⟨Nat.le_of_ble_eq_true rfl, Nat.le_of_ble_eq_true rfl⟩) 0 rfl rfl rfl hl.1 rfl (lv_room (Nat.le_of_ble_eq_true rfl)) ⟨Nat.le_of_ble_eq_true rfl, Nat.le_of_ble_eq_true rfl⟩ dX1_roomTold_7 (fun E_ w_ ce_ q9_ H locs hq hP hD hS hce hcv hcl => ?_) (fun r_ w_ H locs hq hP hD hS => ?_)
  · obtain ⟨srd_3x, rfl, rfl⟩ := hq
    have hrun := moxl hrun
    cases hrun
    have hP := hP.sub (ws' := ((cH k ah aw adr aim ard asc ath awl alo atr sh) ++ (cR k ard srd_3x))) [2, 0, 1] rfl
    have hD := hD.sub (ws' := ((cH k ah aw adr aim ard asc ath awl alo atr sh) ++ (cR k ard srd_3x))) [2, 0, 1] (by decide) rfl
    exact zout hnoh hlocks hce hcv hcl hP hD hS ⟨_, rfl, rfl⟩ (Nat.le_of_ble_eq_true rfl) (Nat.le_of_ble_eq_true rfl)
  obtain ⟨r_4, srd_3, rfl, rfl, rfl⟩ := hq
  have hrun := moxr hrun
  have hP := hP.sub (ws' := ((cH k ah aw adr aim ard asc ath awl alo atr sh) ++ (cR k ard srd_3))) [2, 0, 1] rfl
  have hD := hD.sub (ws' := ((cH k ah aw adr aim ard asc ath awl alo atr sh) ++ (cR k ard srd_3))) [2, 0, 1] (by decide) rfl
  cases hrun
  refine W.widen (k := 1) (n := 6) (Nat.le_of_ble_eq_true rfl) (Nat.le_of_ble_eq_true rfl) ?_
  exact vx_ret (retW_i hx hb hr hlocks hP hD hS ⟨_, _, rfl, rfl, rfl⟩ dX1_roomTold_10)
def rX1_goesOn : Room := { frames := 5, cells := 1, slots := 6, locals := 140 }
noncomputable def fX1_goesOn (sh : Kp) (srd : Rd) : Option ((String × Rd) ⊕ (Bool × Rd)) :=
  mo2 (fX3_isOver srd) fun r_3 srd_2 =>
  if r_3 = true then
    some (.inr (false, srd_2))
  else
    mo2 (fX3_sign srd_2 (59 : Int32)) fun r_7 srd_6 =>
    if r_7 = true then
      some (.inr (true, srd_6))
    else
      some (.inl ("SaturdayKeep$Wrong", srd_6))
theorem kX1_goesOn {R : Room} {s : State} {args : Array Value} {own : String} {idx mc ms : Nat} {rm : Room} (hts : ∀ w ∈ lw_all, w.before args s = true) (hl : Cond.methodLink own idx yX1_goesOn ∈ lw_all) (hrc : rm.cells = mc) (hrs : rm.slots = ms) (hR : rm.frames + 1 ≤ R.frames ∧ 8 + (1 + 11) + rm.locals ≤ R.locals) : CallW R s args own RX1 idx yX1_goesOn cX1_goesOn 1 (some .boolean) (ws_ yX1_goesOn cX1_goesOn 1 (some .boolean)) rm mc ms 0 :=
  cwV 0 hts (lw_V hl q1260 qs22 q107 q1261) rfl hrc hrs (by decide +kernel) hR
set_option maxHeartbeats 4000000 in
set_option maxRecDepth 100000 in
theorem mtX1_goesOn (l : Launch) (D : va_G) (k : Nat → ClassId) (ah : Nat → Nat) (aw : Nat → Nat) (adr : Nat → Nat) (aim : Nat → Nat) (ard : Nat → Nat) (asc : Nat → Nat) (ath : Nat → Nat) (awl : Nat → Nat) (alo : Nat → Nat) (atr : Nat → Nat) (Z : zZ) (hOK : zOK D zCl (zTys k) Z) (hlt : l.stackTraces = false) (hTh : zTh Z) (sh : Kp) (srd : Rd) (o : (String × Rd) ⊕ (Bool × Rd)) (hrun : fX1_goesOn sh srd = some o) :
    CtX l yX1_goesOn cX1_goesOn 1 (some .boolean) rX1_goesOn Z D zCl ((cH k ah aw adr aim ard asc ath awl alo atr sh) ++ (cR k ard srd)) [.ref (ah 0)] (fun r' w' => ∃ (r : Bool) (ord : Rd), o = .inr (r, ord) ∧ r' = (some (.int (bz r))) ∧ w' = ((cH k ah aw adr aim ard asc ath awl alo atr sh) ++ (cR k ard ord))) (fun E' w' => ∃ (ord : Rd), o = .inl (E', ord) ∧ w' = ((cH k ah aw adr aim ard asc ath awl alo atr sh) ++ (cR k ard ord))) 1 6 := by
  refine CtX.of (by decide) (Nat.le_of_ble_eq_true rfl) ?_
  intro p e s m args below meth c A hE hnoh hA hP hD hS hz ls hl
  obtain ⟨hx, hb, hr, hml, hown, hts, hlocks, hname⟩ := hE
  have hown : s.vm.findClass RX1 = some m.cls := hown
  have hK := hOK.1 _ _ _ hz
  have hN := hOK.2.1 _ _ _ hz
  have hl : lv_has ls 1 [(0, .ref (ah 0))] := hl
  unfold fX1_goesOn at hrun
  refine lv_aload_n hx hb dX1_goesOn_0 rfl (lv_at hl 0 rfl) ?_
  refine va_get (ci := 1) (v := .ref (ard 0)) (C := RX1) (T := TX1) (N := 10) hx hb hts in_X1 hown hK hP 0 rfl rfl 4 (by decide) (hts _ q375) (fun _ h9 => h9) rfl dX1_goesOn_1 ?_
  obtain ⟨r_3, srd_2, hc_1, hrun⟩ := mo2_s rfl hrun
  have hP := hP.sub (ws' := ((cR k ard srd) ++ (cH k ah aw adr aim ard asc ath awl alo atr sh))) [1, 2, 0] rfl
  have hD := hD.sub (ws' := ((cR k ard srd) ++ (cH k ah aw adr aim ard asc ath awl alo atr sh))) [1, 2, 0] (by decide) rfl
  refine cWV [] (cR k ard srd) (cH k ah aw adr aim ard asc ath awl alo atr sh) (As := []) (ci := 3) ⟨hx, hb, hml, hown, hts⟩ hOK hz hS hA hP hD (mtX3_isOver l D k ard Z hOK _ _ _ hc_1) (kX3_isOver hts q767 rfl rfl ⟨Nat.le_of_ble_eq_true rfl, Nat.le_of_ble_eq_true rfl⟩) 0 rfl rfl rfl hl.1 rfl (lv_room (Nat.le_of_ble_eq_true rfl)) ⟨Nat.le_of_ble_eq_true rfl, Nat.le_of_ble_eq_true rfl⟩ dX1_goesOn_4 (fun r_ w_ H locs hq hP hD hS => ?_)
  obtain ⟨rfl, rfl⟩ := hq
  have hP := hP.sub (ws' := ((cH k ah aw adr aim ard asc ath awl alo atr sh) ++ (cR k ard srd_2))) [2, 0, 1] rfl
  have hD := hD.sub (ws' := ((cH k ah aw adr aim ard asc ath awl alo atr sh) ++ (cR k ard srd_2))) [2, 0, 1] (by decide) rfl
  refine lv_if_eq (tgt := 12) hx hb dX1_goesOn_7 (by decide) (fun c_4 => ?_) (fun c_4 => ?_)
  · have hrun := mif_n (bz_z c_4) hrun
    refine lv_aload_n hx hb dX1_goesOn_12 rfl (lv_at hl 0 rfl) ?_
    refine va_get (ci := 1) (v := .ref (ard 0)) (C := RX1) (T := TX1) (N := 10) hx hb hts in_X1 hown hK hP 0 rfl rfl 4 (by decide) (hts _ q375) (fun _ h9 => h9) rfl dX1_goesOn_13 ?_
    refine lv_bipush (v := (59 : Int32)) hx hb dX1_goesOn_16 (by decide) ?_
    obtain ⟨r_7, srd_6, hc_5, hrun⟩ := mo2_s rfl hrun
    have hP := hP.sub (ws' := ((cR k ard srd_2) ++ (cH k ah aw adr aim ard asc ath awl alo atr sh))) [1, 2, 0] rfl
    have hD := hD.sub (ws' := ((cR k ard srd_2) ++ (cH k ah aw adr aim ard asc ath awl alo atr sh))) [1, 2, 0] (by decide) rfl
    refine cWV [] (cR k ard srd_2) (cH k ah aw adr aim ard asc ath awl alo atr sh) (As := [.int (59 : Int32)]) (ci := 3) ⟨hx, hb, hml, hown, hts⟩ hOK hz hS hA hP hD (mtX3_sign l D k ard Z hOK _ _ _ _ hc_5) (kX3_sign hts q1262 rfl rfl ⟨Nat.le_of_ble_eq_true rfl, Nat.le_of_ble_eq_true rfl⟩) 0 rfl rfl rfl hl.1 rfl (lv_room (Nat.le_of_ble_eq_true rfl)) ⟨Nat.le_of_ble_eq_true rfl, Nat.le_of_ble_eq_true rfl⟩ dX1_goesOn_18 (fun r_ w_ H locs hq hP hD hS => ?_)
    obtain ⟨rfl, rfl⟩ := hq
    have hP := hP.sub (ws' := ((cH k ah aw adr aim ard asc ath awl alo atr sh) ++ (cR k ard srd_6))) [2, 0, 1] rfl
    have hD := hD.sub (ws' := ((cH k ah aw adr aim ard asc ath awl alo atr sh) ++ (cR k ard srd_6))) [2, 0, 1] (by decide) rfl
    refine lv_if_eq (tgt := 26) hx hb dX1_goesOn_21 (by decide) (fun c_8 => ?_) (fun c_8 => ?_)
    · have hrun := mif_n (bz_z c_8) hrun
      refine lv_aload_n hx hb dX1_goesOn_26 rfl (lv_at hl 0 rfl) ?_
      refine va_get (ci := 1) (v := .ref (ard 0)) (C := RX1) (T := TX1) (N := 10) hx hb hts in_X1 hown hK hP 0 rfl rfl 4 (by decide) (hts _ q375) (fun _ h9 => h9) rfl dX1_goesOn_27 ?_
      cases hrun
      have hP : va_P D zCl ((cH k ah aw adr aim ard asc ath awl alo atr sh) ++ ((cR k ard srd_6) ++ [])) _ := hP
      have hD : va_D A ((cH k ah aw adr aim ard asc ath awl alo atr sh) ++ ((cR k ard srd_6) ++ [])) := hD
      refine cWV (cH k ah aw adr aim ard asc ath awl alo atr sh) (cR k ard srd_6) [] (As := []) (ci := 3) ⟨hx, hb, hml, hown, hts⟩ hOK hz hS hA hP hD (mtX3_wrongR l D k Z hOK hTh ard srd_6) (kX3_wrong hts q1113 rfl rfl ⟨Nat.le_of_ble_eq_true rfl, Nat.le_of_ble_eq_true rfl⟩) 0 rfl rfl rfl hl.1 rfl (lv_room (Nat.le_of_ble_eq_true rfl)) ⟨(Nat.le_of_ble_eq_true rfl), (Nat.le_of_ble_eq_true rfl)⟩ dX1_goesOn_30 (fun r_ w_ H locs hq hP hD hS => ?_)
      obtain ⟨qw_, rfl, rfl⟩ := hq
      obtain ⟨ce_, hce_, hcv_, hcl_⟩ := zWr hK hP 3 rfl
      refine vx_athrow hx hb dX1_goesOn_33 ?_
      have hP := hP.sub (ws' := ((cH k ah aw adr aim ard asc ath awl alo atr sh) ++ (cR k ard srd_6))) [0, 1, 2] rfl
      have hD := hD.sub (ws' := ((cH k ah aw adr aim ard asc ath awl alo atr sh) ++ (cR k ard srd_6))) [0, 1, 2] (by decide) rfl
      exact zout hnoh hlocks hce_ hcv_ hcl_ hP hD hS ⟨_, rfl, rfl⟩ (Nat.le_of_ble_eq_true rfl) (Nat.le_of_ble_eq_true rfl)
    have hrun := mif_p (bz_nz c_8) hrun
    refine lv_iconst (v := (1 : Int32)) hx hb dX1_goesOn_24 (by decide) ?_
    cases hrun
    refine W.widen (k := 1) (n := 6) (Nat.le_of_ble_eq_true rfl) (Nat.le_of_ble_eq_true rfl) ?_
    exact vx_ret (retW_z (v := true) hx hb hr hlocks hP hD hS ⟨_, _, rfl, rfl, rfl⟩ dX1_goesOn_25)
  have hrun := mif_p (bz_nz c_4) hrun
  refine lv_iconst (v := (0 : Int32)) hx hb dX1_goesOn_10 (by decide) ?_
  cases hrun
  refine W.widen (k := 1) (n := 6) (Nat.le_of_ble_eq_true rfl) (Nat.le_of_ble_eq_true rfl) ?_
  exact vx_ret (retW_z (v := false) hx hb hr hlocks hP hD hS ⟨_, _, rfl, rfl, rfl⟩ dX1_goesOn_11)
def rX1_fails : Room := { frames := 6, cells := 1, slots := 6, locals := 89 }
noncomputable def fX1_fails (sh : Kp) (srd : Rd) : Option ((String × Rd) ⊕ (Rd)) :=
  mlt (rd_s_fault srd (rd_begin srd)) fun srd_1 =>
  some (.inl ("java/lang/IllegalArgumentException", srd_1))
theorem kX1_fails {R : Room} {s : State} {args : Array Value} {own : String} {idx mc ms : Nat} {rm : Room} (hts : ∀ w ∈ lw_all, w.before args s = true) (hl : Cond.methodLink own idx yX1_fails ∈ lw_all) (hrc : rm.cells = mc) (hrs : rm.slots = ms) (hR : rm.frames + 1 ≤ R.frames ∧ 8 + (1 + 11) + rm.locals ≤ R.locals) : CallW R s args own RX1 idx yX1_fails cX1_fails 1 none (ws_ yX1_fails cX1_fails 1 none) rm mc ms 0 :=
  cwV 0 hts (lw_V hl q1268 qs23 q107 q1269) rfl hrc hrs (by decide +kernel) hR
set_option maxHeartbeats 4000000 in
set_option maxRecDepth 100000 in
theorem mtX1_fails (l : Launch) (D : va_G) (k : Nat → ClassId) (ah : Nat → Nat) (aw : Nat → Nat) (adr : Nat → Nat) (aim : Nat → Nat) (ard : Nat → Nat) (asc : Nat → Nat) (ath : Nat → Nat) (awl : Nat → Nat) (alo : Nat → Nat) (atr : Nat → Nat) (Z : zZ) (hOK : zOK D zCl (zTys k) Z) (hlt : l.stackTraces = false) (hTh : zTh Z) (sh : Kp) (srd : Rd) (o : (String × Rd) ⊕ (Rd)) (hrun : fX1_fails sh srd = some o) :
    CtX l yX1_fails cX1_fails 1 none rX1_fails Z D zCl ((cH k ah aw adr aim ard asc ath awl alo atr sh) ++ (cR k ard srd)) [.ref (ah 0)] (fun r' w' => ∃ (ord : Rd), o = .inr ord ∧ r' = none ∧ w' = ((cH k ah aw adr aim ard asc ath awl alo atr sh) ++ (cR k ard ord))) (fun E' w' => ∃ (ord : Rd), o = .inl (E', ord) ∧ w' = ((cH k ah aw adr aim ard asc ath awl alo atr sh) ++ (cR k ard ord))) 1 6 := by
  refine CtX.of (by decide) (Nat.le_of_ble_eq_true rfl) ?_
  intro p e s m args below meth c A hE hnoh hA hP hD hS hz ls hl
  obtain ⟨hx, hb, hr, hml, hown, hts, hlocks, hname⟩ := hE
  have hown : s.vm.findClass RX1 = some m.cls := hown
  have hK := hOK.1 _ _ _ hz
  have hN := hOK.2.1 _ _ _ hz
  have hl : lv_has ls 1 [(0, .ref (ah 0))] := hl
  unfold fX1_fails at hrun
  refine lv_aload_n hx hb dX1_fails_0 rfl (lv_at hl 0 rfl) ?_
  refine va_get (ci := 1) (v := .ref (ard 0)) (C := RX1) (T := TX1) (N := 10) hx hb hts in_X1 hown hK hP 0 rfl rfl 4 (by decide) (hts _ q375) (fun _ h9 => h9) rfl dX1_fails_1 ?_
  refine lv_aload_n hx hb dX1_fails_4 rfl (lv_at hl 0 rfl) ?_
  refine va_get (ci := 1) (v := .ref (ard 0)) (C := RX1) (T := TX1) (N := 10) hx hb hts in_X1 hown hK hP 0 rfl rfl 4 (by decide) (hts _ q375) (fun _ h9 => h9) rfl dX1_fails_5 ?_
  refine va_getN (ci := 3) (v := .int (rd_begin srd)) (C := RX3) (T := TX3) (N := 7) hx hb hts in_X3 hown hK hP 1 rfl rfl 4 (by decide) (va_Nw.use rfl (hN _ (zN_of q267 rfl))) (fun _ h9 => h9) rfl dX1_fails_8 ?_
  refine va_putN (ci := 3) (v := .int (rd_begin srd)) (ty := tyX3 5) (C := RX3) (T := TX3) (N := 7) hx hb hts in_X3 tyX3 tyX3_ok nmX3 hown hK hP hD hS 1 rfl rfl 5 (by decide) (va_Nw.use rfl (hN _ (zN_of q269 rfl))) (fun _ h9 => h9) rfl (tyX3_ok 5 (by decide)) rfl rfl (Nat.le_of_ble_eq_true rfl) dX1_fails_11 (fun H locs hP hD hS => ?_)
  have hP : va_P D zCl ((cH k ah aw adr aim ard asc ath awl alo atr sh) ++ (cR k ard (rd_s_fault srd (rd_begin srd)))) _ := hP
  have hD : va_D A ((cH k ah aw adr aim ard asc ath awl alo atr sh) ++ (cR k ard (rd_s_fault srd (rd_begin srd)))) := hD
  obtain ⟨srd_1, esrd_1⟩ : ∃ z : Rd, z = (rd_s_fault srd (rd_begin srd)) := ⟨_, rfl⟩
  rw [← esrd_1] at hP hD
  have hrun := mlt_s hrun srd_1 esrd_1
  cases hrun
  exact zthrow (own := "SaturdayKeep") (cls := "java/lang/IllegalArgumentException") (names := ["java/lang/RuntimeException", "java/lang/Exception"]) hx hb hlt hown (by decide +kernel) (by decide +kernel) (hts _ q1270) (hts _ q129) (xtX1_IAE hts hN) xgX1_IAE hTh hz hlocks hP hD hS hA (hl.1.trans hml.symm) ⟨_, rfl, rfl⟩ dX1_fails_14 dX1_fails_17 dX1_fails_18 dX1_fails_21 hnoh (Nat.le_of_ble_eq_true rfl) (Nat.le_of_ble_eq_true rfl) (Nat.le_of_ble_eq_true rfl) (Nat.le_of_ble_eq_true rfl) (Nat.le_of_ble_eq_true rfl) (Nat.le_of_ble_eq_true rfl)
def rX1_aHole : Room := { frames := 8, cells := 3, slots := 18, locals := 206 }
noncomputable def fX1_aHole (sh : Kp) (su : Wd) (srd : Rd) : Option ((String × Wd × Rd) ⊕ (Wd × Rd)) :=
  mox (fX1_roomTold sh srd) (fun E_5 => some (.inl (E_5.1, (su, (E_5.2))))) fun q_6 =>
  mox (fX1_roomTold sh (q_6.2)) (fun E_11 => some (.inl (E_11.1, (su, (E_11.2))))) fun q_12 =>
  if (q_12.1) = (q_6.1) then
    some (.inl ("SaturdayKeep$Wrong", (su, (q_12.2))))
  else
    mck (q_6.1) 8 <|
    mck (q_6.1) 8 <|
    mlt (wd_s_holes su (upd (wd_holes su) (Int32.toNatClampNeg (q_6.1)) (((wd_holes su) (Int32.toNatClampNeg (q_6.1))) ||| ((1 : Int32) <<< ((q_12.1) &&& (31 : Int32)))))) fun su_16 =>
    some (.inr (su_16, (q_12.2)))
theorem kX1_aHole {R : Room} {s : State} {args : Array Value} {own : String} {idx mc ms : Nat} {rm : Room} (hts : ∀ w ∈ lw_all, w.before args s = true) (hl : Cond.methodLink own idx yX1_aHole ∈ lw_all) (hrc : rm.cells = mc) (hrs : rm.slots = ms) (hR : rm.frames + 1 ≤ R.frames ∧ 8 + (4 + 11) + rm.locals ≤ R.locals) : CallW R s args own RX1 idx yX1_aHole cX1_aHole 4 none (ws_ yX1_aHole cX1_aHole 4 none) rm mc ms 1 :=
  cwV 1 hts (lw_V hl q1252 qs20 q107 q1253) rfl hrc hrs (by decide +kernel) hR
set_option maxHeartbeats 4000000 in
set_option maxRecDepth 100000 in
theorem mtX1_aHole (l : Launch) (D : va_G) (k : Nat → ClassId) (ah : Nat → Nat) (aw : Nat → Nat) (adr : Nat → Nat) (aim : Nat → Nat) (ard : Nat → Nat) (asc : Nat → Nat) (ath : Nat → Nat) (awl : Nat → Nat) (alo : Nat → Nat) (atr : Nat → Nat) (au : Nat → Nat) (Z : zZ) (hOK : zOK D zCl (zTys k) Z) (hlt : l.stackTraces = false) (hTh : zTh Z) (sh : Kp) (su : Wd) (srd : Rd) (o : (String × Wd × Rd) ⊕ (Wd × Rd)) (hrun : fX1_aHole sh su srd = some o) :
    CtX l yX1_aHole cX1_aHole 4 none rX1_aHole Z D zCl ((cH k ah aw adr aim ard asc ath awl alo atr sh) ++ ((cW k au su) ++ (cR k ard srd))) [.ref (ah 0), .ref (au 0)] (fun r' w' => ∃ (ou : Wd) (ord : Rd), o = .inr (ou, ord) ∧ r' = none ∧ w' = ((cH k ah aw adr aim ard asc ath awl alo atr sh) ++ ((cW k au ou) ++ (cR k ard ord)))) (fun E' w' => ∃ (ou : Wd) (ord : Rd), o = .inl (E', (ou, ord)) ∧ w' = ((cH k ah aw adr aim ard asc ath awl alo atr sh) ++ ((cW k au ou) ++ (cR k ard ord)))) 3 18 := by
  refine CtX.of (by decide) (Nat.le_of_ble_eq_true rfl) ?_
  intro p e s m args below meth c A hE hnoh hA hP hD hS hz ls hl
  obtain ⟨hx, hb, hr, hml, hown, hts, hlocks, hname⟩ := hE
  have hown : s.vm.findClass RX1 = some m.cls := hown
  have hK := hOK.1 _ _ _ hz
  have hN := hOK.2.1 _ _ _ hz
  have hl : lv_has ls 4 [(0, .ref (ah 0)), (1, .ref (au 0))] := hl
  unfold fX1_aHole at hrun
  refine lv_aload_n hx hb dX1_aHole_0 rfl (lv_at hl 0 rfl) ?_
  obtain ⟨o_2, hc_1, hrun⟩ := mox_s rfl hrun
  have hP := hP.sub (ws' := ([] ++ (((cH k ah aw adr aim ard asc ath awl alo atr sh) ++ (cR k ard srd)) ++ (cW k au su)))) [0, 10, 11, 1, 2, 3, 4, 5, 6, 7, 8, 9] rfl
  have hD := hD.sub (ws' := ([] ++ (((cH k ah aw adr aim ard asc ath awl alo atr sh) ++ (cR k ard srd)) ++ (cW k au su)))) [0, 10, 11, 1, 2, 3, 4, 5, 6, 7, 8, 9] (by decide) rfl
  refine cXV [] ((cH k ah aw adr aim ard asc ath awl alo atr sh) ++ (cR k ard srd)) (cW k au su) (As := []) (ci := 1) ⟨hx, hb, hml, hown, hts⟩ hOK hz hS hA hP hD (mtX1_roomTold l D k ah aw adr aim ard asc ath awl alo atr Z hOK hlt hTh _ _ o_2 hc_1) (kX1_roomTold hts q1254 rfl rfl ⟨Nat.le_of_ble_eq_true rfl, Nat.le_of_ble_eq_true rfl⟩) 0 rfl rfl rfl hl.1 rfl (lv_room (Nat.le_of_ble_eq_true rfl)) ⟨Nat.le_of_ble_eq_true rfl, Nat.le_of_ble_eq_true rfl⟩ dX1_aHole_1 (fun E_ w_ ce_ q9_ H locs hq hP hD hS hce hcv hcl => ?_) (fun r_ w_ H locs hq hP hD hS => ?_)
  · obtain ⟨srd_3x, rfl, rfl⟩ := hq
    have hrun := moxl hrun
    cases hrun
    have hP := hP.sub (ws' := ((cH k ah aw adr aim ard asc ath awl alo atr sh) ++ ((cW k au su) ++ (cR k ard srd_3x)))) [0, 3, 4, 5, 6, 7, 8, 9, 10, 11, 1, 2] rfl
    have hD := hD.sub (ws' := ((cH k ah aw adr aim ard asc ath awl alo atr sh) ++ ((cW k au su) ++ (cR k ard srd_3x)))) [0, 3, 4, 5, 6, 7, 8, 9, 10, 11, 1, 2] (by decide) rfl
    exact zout hnoh hlocks hce hcv hcl hP hD hS ⟨_, _, rfl, rfl⟩ (Nat.le_of_ble_eq_true rfl) (Nat.le_of_ble_eq_true rfl)
  obtain ⟨r_4, srd_3, rfl, rfl, rfl⟩ := hq
  have hrun := moxr hrun
  have hP := hP.sub (ws' := ((cH k ah aw adr aim ard asc ath awl alo atr sh) ++ ((cW k au su) ++ (cR k ard srd_3)))) [0, 3, 4, 5, 6, 7, 8, 9, 10, 11, 1, 2] rfl
  have hD := hD.sub (ws' := ((cH k ah aw adr aim ard asc ath awl alo atr sh) ++ ((cW k au su) ++ (cR k ard srd_3)))) [0, 3, 4, 5, 6, 7, 8, 9, 10, 11, 1, 2] (by decide) rfl
  refine lv_istore_n (lv' := [(2, .int r_4), (0, .ref (ah 0)), (1, .ref (au 0))]) hx hb dX1_aHole_4 rfl hl (by decide) rfl (fun ls hl => ?_)
  refine lv_aload_n hx hb dX1_aHole_5 rfl (lv_at hl 1 rfl) ?_
  obtain ⟨o_8, hc_7, hrun⟩ := mox_s rfl hrun
  have hP := hP.sub (ws' := ([] ++ (((cH k ah aw adr aim ard asc ath awl alo atr sh) ++ (cR k ard srd_3)) ++ (cW k au su)))) [0, 10, 11, 1, 2, 3, 4, 5, 6, 7, 8, 9] rfl
  have hD := hD.sub (ws' := ([] ++ (((cH k ah aw adr aim ard asc ath awl alo atr sh) ++ (cR k ard srd_3)) ++ (cW k au su)))) [0, 10, 11, 1, 2, 3, 4, 5, 6, 7, 8, 9] (by decide) rfl
  refine cXV [] ((cH k ah aw adr aim ard asc ath awl alo atr sh) ++ (cR k ard srd_3)) (cW k au su) (As := []) (ci := 1) ⟨hx, hb, hml, hown, hts⟩ hOK hz hS hA hP hD (mtX1_roomTold l D k ah aw adr aim ard asc ath awl alo atr Z hOK hlt hTh _ _ o_8 hc_7) (kX1_roomTold hts q1254 rfl rfl ⟨Nat.le_of_ble_eq_true rfl, Nat.le_of_ble_eq_true rfl⟩) 0 rfl rfl rfl hl.1 rfl (lv_room (Nat.le_of_ble_eq_true rfl)) ⟨Nat.le_of_ble_eq_true rfl, Nat.le_of_ble_eq_true rfl⟩ dX1_aHole_6 (fun E_ w_ ce_ q9_ H locs hq hP hD hS hce hcv hcl => ?_) (fun r_ w_ H locs hq hP hD hS => ?_)
  · obtain ⟨srd_9x, rfl, rfl⟩ := hq
    have hrun := moxl hrun
    cases hrun
    have hP := hP.sub (ws' := ((cH k ah aw adr aim ard asc ath awl alo atr sh) ++ ((cW k au su) ++ (cR k ard srd_9x)))) [0, 3, 4, 5, 6, 7, 8, 9, 10, 11, 1, 2] rfl
    have hD := hD.sub (ws' := ((cH k ah aw adr aim ard asc ath awl alo atr sh) ++ ((cW k au su) ++ (cR k ard srd_9x)))) [0, 3, 4, 5, 6, 7, 8, 9, 10, 11, 1, 2] (by decide) rfl
    exact zout hnoh hlocks hce hcv hcl hP hD hS ⟨_, _, rfl, rfl⟩ (Nat.le_of_ble_eq_true rfl) (Nat.le_of_ble_eq_true rfl)
  obtain ⟨r_10, srd_9, rfl, rfl, rfl⟩ := hq
  have hrun := moxr hrun
  have hP := hP.sub (ws' := ((cH k ah aw adr aim ard asc ath awl alo atr sh) ++ ((cW k au su) ++ (cR k ard srd_9)))) [0, 3, 4, 5, 6, 7, 8, 9, 10, 11, 1, 2] rfl
  have hD := hD.sub (ws' := ((cH k ah aw adr aim ard asc ath awl alo atr sh) ++ ((cW k au su) ++ (cR k ard srd_9)))) [0, 3, 4, 5, 6, 7, 8, 9, 10, 11, 1, 2] (by decide) rfl
  refine lv_istore_n (lv' := [(3, .int r_10), (2, .int r_4), (0, .ref (ah 0)), (1, .ref (au 0))]) hx hb dX1_aHole_9 rfl hl (by decide) rfl (fun ls hl => ?_)
  refine lv_iload_n hx hb dX1_aHole_10 rfl (lv_at hl 0 rfl) ?_
  refine lv_iload_n hx hb dX1_aHole_11 rfl (lv_at hl 1 rfl) ?_
  refine lv_icmp_ne (tgt := 23) hx hb dX1_aHole_12 (by decide) (fun c_13 => ?_) (fun c_13 => ?_)
  · have hrun := mif_n c_13 hrun
    refine lv_aload_n hx hb dX1_aHole_23 rfl (lv_at hl 3 rfl) ?_
    refine va_getN (ci := 2) (v := .ref (au 7)) (C := RX2) (T := TX2) (N := 21) hx hb hts in_X2 hown hK hP 1 rfl rfl 18 (by decide) (va_Nw.use rfl (hN _ (zN_of q204 rfl))) (fun _ h9 => h9) rfl dX1_aHole_24 ?_
    refine lv_iload_n hx hb dX1_aHole_27 rfl (lv_at hl 1 rfl) ?_
    refine lv_dup2_11 hx hb dX1_aHole_28 rfl rfl ?_
    obtain ⟨hb_14, hrun⟩ := mck_s rfl hrun
    refine va_iald hx hb hK hP 8 0 rfl rfl hb_14 dX1_aHole_29 ?_
    refine lv_iconst (v := (1 : Int32)) hx hb dX1_aHole_30 (by decide) ?_
    refine lv_iload_n hx hb dX1_aHole_31 rfl (lv_at hl 0 rfl) ?_
    refine lv_ishl hx hb dX1_aHole_32 ?_
    refine lv_ior hx hb dX1_aHole_33 ?_
    obtain ⟨hb_15, hrun⟩ := mck_s rfl hrun
    refine va_iast hx hb hK hP hD hS 8 0 rfl rfl hb_15 dX1_aHole_34 (fun H locs hP hD hS => ?_)
    have hP : va_P D zCl ((cH k ah aw adr aim ard asc ath awl alo atr sh) ++ ((cW k au (wd_s_holes su (upd (wd_holes su) (Int32.toNatClampNeg r_4) (((wd_holes su) (Int32.toNatClampNeg r_4)) ||| ((1 : Int32) <<< (r_10 &&& (31 : Int32))))))) ++ (cR k ard srd_9))) _ := hP
    have hD : va_D A ((cH k ah aw adr aim ard asc ath awl alo atr sh) ++ ((cW k au (wd_s_holes su (upd (wd_holes su) (Int32.toNatClampNeg r_4) (((wd_holes su) (Int32.toNatClampNeg r_4)) ||| ((1 : Int32) <<< (r_10 &&& (31 : Int32))))))) ++ (cR k ard srd_9))) := hD
    obtain ⟨su_16, esu_16⟩ : ∃ z : Wd, z = (wd_s_holes su (upd (wd_holes su) (Int32.toNatClampNeg r_4) (((wd_holes su) (Int32.toNatClampNeg r_4)) ||| ((1 : Int32) <<< (r_10 &&& (31 : Int32)))))) := ⟨_, rfl⟩
    rw [← esu_16] at hP hD
    have hrun := mlt_s hrun su_16 esu_16
    cases hrun
    refine W.widen (k := 3) (n := 18) (Nat.le_of_ble_eq_true rfl) (Nat.le_of_ble_eq_true rfl) ?_
    exact vx_ret (retW_v hx hb hr hlocks hP hD hS ⟨_, _, rfl, rfl, rfl⟩ dX1_aHole_35)
  have hrun := mif_p c_13 hrun
  refine lv_aload_n hx hb dX1_aHole_15 rfl (lv_at hl 2 rfl) ?_
  refine va_get (ci := 1) (v := .ref (ard 0)) (C := RX1) (T := TX1) (N := 10) hx hb hts in_X1 hown hK hP 0 rfl rfl 4 (by decide) (hts _ q375) (fun _ h9 => h9) rfl dX1_aHole_16 ?_
  cases hrun
  have hP : va_P D zCl (((cH k ah aw adr aim ard asc ath awl alo atr sh) ++ (cW k au su)) ++ ((cR k ard srd_9) ++ [])) _ := hP
  have hD : va_D A (((cH k ah aw adr aim ard asc ath awl alo atr sh) ++ (cW k au su)) ++ ((cR k ard srd_9) ++ [])) := hD
  refine cWV ((cH k ah aw adr aim ard asc ath awl alo atr sh) ++ (cW k au su)) (cR k ard srd_9) [] (As := []) (ci := 3) ⟨hx, hb, hml, hown, hts⟩ hOK hz hS hA hP hD (mtX3_wrongR l D k Z hOK hTh ard srd_9) (kX3_wrong hts q1113 rfl rfl ⟨Nat.le_of_ble_eq_true rfl, Nat.le_of_ble_eq_true rfl⟩) 0 rfl rfl rfl hl.1 rfl (lv_room (Nat.le_of_ble_eq_true rfl)) ⟨(Nat.le_of_ble_eq_true rfl), (Nat.le_of_ble_eq_true rfl)⟩ dX1_aHole_19 (fun r_ w_ H locs hq hP hD hS => ?_)
  obtain ⟨qw_, rfl, rfl⟩ := hq
  obtain ⟨ce_, hce_, hcv_, hcl_⟩ := zWr hK hP 12 rfl
  refine vx_athrow hx hb dX1_aHole_22 ?_
  have hP := hP.sub (ws' := ((cH k ah aw adr aim ard asc ath awl alo atr sh) ++ ((cW k au su) ++ (cR k ard srd_9)))) [0, 1, 2, 3, 4, 5, 6, 7, 8, 9, 10, 11] rfl
  have hD := hD.sub (ws' := ((cH k ah aw adr aim ard asc ath awl alo atr sh) ++ ((cW k au su) ++ (cR k ard srd_9)))) [0, 1, 2, 3, 4, 5, 6, 7, 8, 9, 10, 11] (by decide) rfl
  exact zout hnoh hlocks hce_ hcv_ hcl_ hP hD hS ⟨_, _, rfl, rfl⟩ (Nat.le_of_ble_eq_true rfl) (Nat.le_of_ble_eq_true rfl)
