/-! walks: X1_guestAt, X1_calendar, X1_saturday, X1_saturdays, X1_agree, X1_need -/
def rX1_guestAt : Room := { frames := 7, cells := 1, slots := 6, locals := 110 }
noncomputable def fX1_guestAt (sh : Kp) (sw : Wd) (p1 : Int32) : Option ((String) ⊕ (Unit)) :=
  mox (fX1_there p1 (wd_guests sw)) (fun E_3 => some (.inl E_3)) fun _ =>
  some (.inr ())
theorem kX1_guestAt {R : Room} {s : State} {args : Array Value} {own : String} {idx mc ms : Nat} {rm : Room} (hts : ∀ w ∈ lw_all, w.before args s = true) (hl : Cond.methodLink own idx yX1_guestAt ∈ lw_all) (hrc : rm.cells = mc) (hrs : rm.slots = ms) (hR : rm.frames + 1 ≤ R.frames ∧ 8 + (2 + 11) + rm.locals ≤ R.locals) : CallW R s args own RX1 idx yX1_guestAt cX1_guestAt 2 none (ws_ yX1_guestAt cX1_guestAt 2 none) rm mc ms 1 :=
  cwV 1 hts (lw_V hl q1554 qs34 q107 q1555) rfl hrc hrs (by decide +kernel) hR
set_option maxHeartbeats 4000000 in
set_option maxRecDepth 100000 in
theorem mtX1_guestAt (l : Launch) (D : va_G) (k : Nat → ClassId) (ah : Nat → Nat) (aw : Nat → Nat) (adr : Nat → Nat) (aim : Nat → Nat) (ard : Nat → Nat) (asc : Nat → Nat) (ath : Nat → Nat) (awl : Nat → Nat) (alo : Nat → Nat) (atr : Nat → Nat) (Z : zZ) (hOK : zOK D zCl (zTys k) Z) (hlt : l.stackTraces = false) (hTh : zTh Z) (sh : Kp) (sw : Wd) (p1 : Int32) (o : (String) ⊕ (Unit)) (hrun : fX1_guestAt sh sw p1 = some o) :
    CtX l yX1_guestAt cX1_guestAt 2 none rX1_guestAt Z D zCl ((cH k ah aw adr aim ard asc ath awl alo atr sh) ++ (cW k aw sw)) [.ref (ah 0), .int p1] (fun r' w' => o = .inr () ∧ r' = none ∧ w' = ((cH k ah aw adr aim ard asc ath awl alo atr sh) ++ (cW k aw sw))) (fun E' w' => o = .inl E' ∧ w' = ((cH k ah aw adr aim ard asc ath awl alo atr sh) ++ (cW k aw sw))) 1 6 := by
  refine CtX.of (by decide) (Nat.le_of_ble_eq_true rfl) ?_
  intro p e s m args below meth c A hE hnoh hA hP hD hS hz ls hl
  obtain ⟨hx, hb, hr, hml, hown, hts, hlocks, hname⟩ := hE
  have hown : s.vm.findClass RX1 = some m.cls := hown
  have hK := hOK.1 _ _ _ hz
  have hN := hOK.2.1 _ _ _ hz
  have hl : lv_has ls 2 [(0, .ref (ah 0)), (1, .int p1)] := hl
  unfold fX1_guestAt at hrun
  refine lv_iload_n hx hb dX1_guestAt_0 rfl (lv_at hl 1 rfl) ?_
  refine lv_aload_n hx hb dX1_guestAt_1 rfl (lv_at hl 0 rfl) ?_
  refine va_get (ci := 1) (v := .ref (aw 0)) (C := RX1) (T := TX1) (N := 10) hx hb hts in_X1 hown hK hP 0 rfl rfl 0 (by decide) (hts _ q370) (fun _ h9 => h9) rfl dX1_guestAt_2 ?_
  refine va_getN (ci := 2) (v := .int (wd_guests sw)) (C := RX2) (T := TX2) (N := 21) hx hb hts in_X2 hown hK hP 1 rfl rfl 1 (by decide) (va_Nw.use rfl (hN _ (zN_of q166 rfl))) (fun _ h9 => h9) rfl dX1_guestAt_5 ?_
  obtain ⟨o_2, hc_1, hrun⟩ := mox_s rfl hrun
  have hP := hP.sub (ws' := ([] ++ ([] ++ ((cH k ah aw adr aim ard asc ath awl alo atr sh) ++ (cW k aw sw))))) [0, 1, 2, 3, 4, 5, 6, 7, 8, 9] rfl
  have hD := hD.sub (ws' := ([] ++ ([] ++ ((cH k ah aw adr aim ard asc ath awl alo atr sh) ++ (cW k aw sw))))) [0, 1, 2, 3, 4, 5, 6, 7, 8, 9] (by decide) rfl
  refine cXS [] [] ((cH k ah aw adr aim ard asc ath awl alo atr sh) ++ (cW k aw sw)) (As := [.int p1, .int (wd_guests sw)]) ⟨hx, hb, hml, hown, hts⟩ hOK hz hS hA hP hD (mtX1_there l D Z hOK hlt hTh _ _ o_2 hc_1) (kX1_there hts q1556 rfl rfl ⟨Nat.le_of_ble_eq_true rfl, Nat.le_of_ble_eq_true rfl⟩) rfl hl.1 rfl (lv_room (Nat.le_of_ble_eq_true rfl)) ⟨Nat.le_of_ble_eq_true rfl, Nat.le_of_ble_eq_true rfl⟩ dX1_guestAt_8 (fun E_ w_ ce_ q9_ H locs hq hP hD hS hce hcv hcl => ?_) (fun r_ w_ H locs hq hP hD hS => ?_)
  · obtain ⟨rfl, rfl⟩ := hq
    have hrun := moxl hrun
    cases hrun
    have hP := hP.sub (ws' := ((cH k ah aw adr aim ard asc ath awl alo atr sh) ++ (cW k aw sw))) [0, 1, 2, 3, 4, 5, 6, 7, 8, 9] rfl
    have hD := hD.sub (ws' := ((cH k ah aw adr aim ard asc ath awl alo atr sh) ++ (cW k aw sw))) [0, 1, 2, 3, 4, 5, 6, 7, 8, 9] (by decide) rfl
    exact zout hnoh hlocks hce hcv hcl hP hD hS ⟨rfl, rfl⟩ (Nat.le_of_ble_eq_true rfl) (Nat.le_of_ble_eq_true rfl)
  obtain ⟨rfl, rfl, rfl⟩ := hq
  have hrun := moxr hrun
  have hP := hP.sub (ws' := ((cH k ah aw adr aim ard asc ath awl alo atr sh) ++ (cW k aw sw))) [0, 1, 2, 3, 4, 5, 6, 7, 8, 9] rfl
  have hD := hD.sub (ws' := ((cH k ah aw adr aim ard asc ath awl alo atr sh) ++ (cW k aw sw))) [0, 1, 2, 3, 4, 5, 6, 7, 8, 9] (by decide) rfl
  cases hrun
  refine W.widen (k := 1) (n := 6) (Nat.le_of_ble_eq_true rfl) (Nat.le_of_ble_eq_true rfl) ?_
  exact vx_ret (retW_v hx hb hr hlocks hP hD hS ⟨rfl, rfl, rfl⟩ dX1_guestAt_11)
def rX1_calendar : Room := { frames := 8, cells := 1, slots := 6, locals := 130 }
noncomputable def fX1_calendar (sh : Kp) (sw : Wd) (p1 : Int32) (p2 : Bool) : Option ((String) ⊕ (Int32)) :=
  mox (fX1_calendarAt p1) (fun E_3 => some (.inl E_3)) fun _ =>
  if p2 = true then
    mob (fX1_nextSaturday sh sw p1) fun r_7 =>
    some (.inr r_7)
  else
    mck p1 2 <|
    some (.inr ((wd_shift sw) (Int32.toNatClampNeg p1)))
theorem kX1_calendar {R : Room} {s : State} {args : Array Value} {own : String} {idx mc ms : Nat} {rm : Room} (hts : ∀ w ∈ lw_all, w.before args s = true) (hl : Cond.methodLink own idx yX1_calendar ∈ lw_all) (hrc : rm.cells = mc) (hrs : rm.slots = ms) (hR : rm.frames + 1 ≤ R.frames ∧ 8 + (3 + 11) + rm.locals ≤ R.locals) : CallW R s args own RX1 idx yX1_calendar cX1_calendar 3 (some .int) (ws_ yX1_calendar cX1_calendar 3 (some .int)) rm mc ms 2 :=
  cwV 2 hts (lw_V hl q1610 q1611 q107 q1612) rfl hrc hrs (by decide +kernel) hR
set_option maxHeartbeats 4000000 in
set_option maxRecDepth 100000 in
theorem mtX1_calendar (l : Launch) (D : va_G) (k : Nat → ClassId) (ah : Nat → Nat) (aw : Nat → Nat) (adr : Nat → Nat) (aim : Nat → Nat) (ard : Nat → Nat) (asc : Nat → Nat) (ath : Nat → Nat) (awl : Nat → Nat) (alo : Nat → Nat) (atr : Nat → Nat) (Z : zZ) (hOK : zOK D zCl (zTys k) Z) (hlt : l.stackTraces = false) (hTh : zTh Z) (sh : Kp) (sw : Wd) (p1 : Int32) (p2 : Bool) (o : (String) ⊕ (Int32)) (hrun : fX1_calendar sh sw p1 p2 = some o) :
    CtX l yX1_calendar cX1_calendar 3 (some .int) rX1_calendar Z D zCl ((cH k ah aw adr aim ard asc ath awl alo atr sh) ++ (cW k aw sw)) [.ref (ah 0), .int p1, .int (bz p2)] (fun r' w' => ∃ (r : Int32), o = .inr r ∧ r' = (some (.int r)) ∧ w' = ((cH k ah aw adr aim ard asc ath awl alo atr sh) ++ (cW k aw sw))) (fun E' w' => o = .inl E' ∧ w' = ((cH k ah aw adr aim ard asc ath awl alo atr sh) ++ (cW k aw sw))) 1 6 := by
  refine CtX.of (by decide) (Nat.le_of_ble_eq_true rfl) ?_
  intro p e s m args below meth c A hE hnoh hA hP hD hS hz ls hl
  obtain ⟨hx, hb, hr, hml, hown, hts, hlocks, hname⟩ := hE
  have hown : s.vm.findClass RX1 = some m.cls := hown
  have hK := hOK.1 _ _ _ hz
  have hN := hOK.2.1 _ _ _ hz
  have hl : lv_has ls 3 [(0, .ref (ah 0)), (1, .int p1), (2, .int (bz p2))] := hl
  unfold fX1_calendar at hrun
  refine lv_iload_n hx hb dX1_calendar_0 rfl (lv_at hl 1 rfl) ?_
  obtain ⟨o_2, hc_1, hrun⟩ := mox_s rfl hrun
  have hP := hP.sub (ws' := ([] ++ ([] ++ ((cH k ah aw adr aim ard asc ath awl alo atr sh) ++ (cW k aw sw))))) [0, 1, 2, 3, 4, 5, 6, 7, 8, 9] rfl
  have hD := hD.sub (ws' := ([] ++ ([] ++ ((cH k ah aw adr aim ard asc ath awl alo atr sh) ++ (cW k aw sw))))) [0, 1, 2, 3, 4, 5, 6, 7, 8, 9] (by decide) rfl
  refine cXS [] [] ((cH k ah aw adr aim ard asc ath awl alo atr sh) ++ (cW k aw sw)) (As := [.int p1]) ⟨hx, hb, hml, hown, hts⟩ hOK hz hS hA hP hD (mtX1_calendarAt l D Z hOK hlt hTh _ o_2 hc_1) (kX1_calendarAt hts q1613 rfl rfl ⟨Nat.le_of_ble_eq_true rfl, Nat.le_of_ble_eq_true rfl⟩) rfl hl.1 rfl (lv_room (Nat.le_of_ble_eq_true rfl)) ⟨Nat.le_of_ble_eq_true rfl, Nat.le_of_ble_eq_true rfl⟩ dX1_calendar_1 (fun E_ w_ ce_ q9_ H locs hq hP hD hS hce hcv hcl => ?_) (fun r_ w_ H locs hq hP hD hS => ?_)
  · obtain ⟨rfl, rfl⟩ := hq
    have hrun := moxl hrun
    cases hrun
    have hP := hP.sub (ws' := ((cH k ah aw adr aim ard asc ath awl alo atr sh) ++ (cW k aw sw))) [0, 1, 2, 3, 4, 5, 6, 7, 8, 9] rfl
    have hD := hD.sub (ws' := ((cH k ah aw adr aim ard asc ath awl alo atr sh) ++ (cW k aw sw))) [0, 1, 2, 3, 4, 5, 6, 7, 8, 9] (by decide) rfl
    exact zout hnoh hlocks hce hcv hcl hP hD hS ⟨rfl, rfl⟩ (Nat.le_of_ble_eq_true rfl) (Nat.le_of_ble_eq_true rfl)
  obtain ⟨rfl, rfl, rfl⟩ := hq
  have hrun := moxr hrun
  have hP := hP.sub (ws' := ((cH k ah aw adr aim ard asc ath awl alo atr sh) ++ (cW k aw sw))) [0, 1, 2, 3, 4, 5, 6, 7, 8, 9] rfl
  have hD := hD.sub (ws' := ((cH k ah aw adr aim ard asc ath awl alo atr sh) ++ (cW k aw sw))) [0, 1, 2, 3, 4, 5, 6, 7, 8, 9] (by decide) rfl
  refine lv_iload_n hx hb dX1_calendar_4 rfl (lv_at hl 2 rfl) ?_
  refine lv_if_eq (tgt := 16) hx hb dX1_calendar_5 (by decide) (fun c_4 => ?_) (fun c_4 => ?_)
  · have hrun := mif_n (bz_z c_4) hrun
    refine lv_aload_n hx hb dX1_calendar_16 rfl (lv_at hl 0 rfl) ?_
    refine va_get (ci := 1) (v := .ref (aw 0)) (C := RX1) (T := TX1) (N := 10) hx hb hts in_X1 hown hK hP 0 rfl rfl 0 (by decide) (hts _ q370) (fun _ h9 => h9) rfl dX1_calendar_17 ?_
    refine va_getN (ci := 2) (v := .ref (aw 1)) (C := RX2) (T := TX2) (N := 21) hx hb hts in_X2 hown hK hP 1 rfl rfl 12 (by decide) (va_Nw.use rfl (hN _ (zN_of q189 rfl))) (fun _ h9 => h9) rfl dX1_calendar_20 ?_
    refine lv_iload_n hx hb dX1_calendar_23 rfl (lv_at hl 1 rfl) ?_
    obtain ⟨hb_5, hrun⟩ := mck_s rfl hrun
    refine va_iald hx hb hK hP 2 0 rfl rfl hb_5 dX1_calendar_24 ?_
    cases hrun
    refine W.widen (k := 1) (n := 6) (Nat.le_of_ble_eq_true rfl) (Nat.le_of_ble_eq_true rfl) ?_
    exact vx_ret (retW_i hx hb hr hlocks hP hD hS ⟨_, rfl, rfl, rfl⟩ dX1_calendar_25)
  have hrun := mif_p (bz_nz c_4) hrun
  refine lv_aload_n hx hb dX1_calendar_8 rfl (lv_at hl 0 rfl) ?_
  refine lv_iload_n hx hb dX1_calendar_9 rfl (lv_at hl 1 rfl) ?_
  obtain ⟨r_7, hc_6, hrun⟩ := mob_s rfl hrun
  refine cRV (As := [.int p1]) (ci := 1) ⟨hx, hb, hml, hown, hts⟩ hOK hz hS hP (mtX1_nextSaturday l D k ah aw adr aim ard asc ath awl alo atr Z hOK _ _ _ _ hc_6) (kX1_nextSaturday hts q1616 rfl rfl ⟨Nat.le_of_ble_eq_true rfl, Nat.le_of_ble_eq_true rfl⟩) 0 rfl rfl rfl hl.1 rfl (lv_room (Nat.le_of_ble_eq_true rfl)) ⟨Nat.le_of_ble_eq_true rfl, Nat.le_of_ble_eq_true rfl⟩ dX1_calendar_10 ?_
  refine lv_goto (tgt := 25) hx hb dX1_calendar_13 (by decide) ?_
  cases hrun
  refine W.widen (k := 1) (n := 6) (Nat.le_of_ble_eq_true rfl) (Nat.le_of_ble_eq_true rfl) ?_
  exact vx_ret (retW_i hx hb hr hlocks hP hD hS ⟨_, rfl, rfl, rfl⟩ dX1_calendar_25)
def rX1_saturday : Room := { frames := 8, cells := 2, slots := 12, locals := 130 }
noncomputable def fX1_saturday (sh : Kp) (sw : Wd) (p1 : Int32) (p2 : Int32) : Option ((String) ⊕ (Bool)) :=
  mox (fX1_calendarAt p1) (fun E_3 => some (.inl E_3)) fun _ =>
  mob (fX1_in p2 (0 : Int32) (9999 : Int32)) fun r_5 =>
  mox (fX1_demand r_5) (fun E_8 => some (.inl E_8)) fun _ =>
  mob (fX2_isSaturday sw p1 p2) fun r_10 =>
  some (.inr r_10)
theorem kX1_saturday {R : Room} {s : State} {args : Array Value} {own : String} {idx mc ms : Nat} {rm : Room} (hts : ∀ w ∈ lw_all, w.before args s = true) (hl : Cond.methodLink own idx yX1_saturday ∈ lw_all) (hrc : rm.cells = mc) (hrs : rm.slots = ms) (hR : rm.frames + 1 ≤ R.frames ∧ 8 + (3 + 11) + rm.locals ≤ R.locals) : CallW R s args own RX1 idx yX1_saturday cX1_saturday 3 (some .boolean) (ws_ yX1_saturday cX1_saturday 3 (some .boolean)) rm mc ms 2 :=
  cwV 2 hts (lw_V hl q1624 q1625 q107 q1626) rfl hrc hrs (by decide +kernel) hR
set_option maxHeartbeats 4000000 in
set_option maxRecDepth 100000 in
theorem mtX1_saturday (l : Launch) (D : va_G) (k : Nat → ClassId) (ah : Nat → Nat) (aw : Nat → Nat) (adr : Nat → Nat) (aim : Nat → Nat) (ard : Nat → Nat) (asc : Nat → Nat) (ath : Nat → Nat) (awl : Nat → Nat) (alo : Nat → Nat) (atr : Nat → Nat) (Z : zZ) (hOK : zOK D zCl (zTys k) Z) (hlt : l.stackTraces = false) (hTh : zTh Z) (sh : Kp) (sw : Wd) (p1 : Int32) (p2 : Int32) (o : (String) ⊕ (Bool)) (hrun : fX1_saturday sh sw p1 p2 = some o) :
    CtX l yX1_saturday cX1_saturday 3 (some .boolean) rX1_saturday Z D zCl ((cH k ah aw adr aim ard asc ath awl alo atr sh) ++ (cW k aw sw)) [.ref (ah 0), .int p1, .int p2] (fun r' w' => ∃ (r : Bool), o = .inr r ∧ r' = (some (.int (bz r))) ∧ w' = ((cH k ah aw adr aim ard asc ath awl alo atr sh) ++ (cW k aw sw))) (fun E' w' => o = .inl E' ∧ w' = ((cH k ah aw adr aim ard asc ath awl alo atr sh) ++ (cW k aw sw))) 2 12 := by
  refine CtX.of (by decide) (Nat.le_of_ble_eq_true rfl) ?_
  intro p e s m args below meth c A hE hnoh hA hP hD hS hz ls hl
  obtain ⟨hx, hb, hr, hml, hown, hts, hlocks, hname⟩ := hE
  have hown : s.vm.findClass RX1 = some m.cls := hown
  have hK := hOK.1 _ _ _ hz
  have hN := hOK.2.1 _ _ _ hz
  have hl : lv_has ls 3 [(0, .ref (ah 0)), (1, .int p1), (2, .int p2)] := hl
  unfold fX1_saturday at hrun
  refine lv_iload_n hx hb dX1_saturday_0 rfl (lv_at hl 1 rfl) ?_
  obtain ⟨o_2, hc_1, hrun⟩ := mox_s rfl hrun
  have hP := hP.sub (ws' := ([] ++ ([] ++ ((cH k ah aw adr aim ard asc ath awl alo atr sh) ++ (cW k aw sw))))) [0, 1, 2, 3, 4, 5, 6, 7, 8, 9] rfl
  have hD := hD.sub (ws' := ([] ++ ([] ++ ((cH k ah aw adr aim ard asc ath awl alo atr sh) ++ (cW k aw sw))))) [0, 1, 2, 3, 4, 5, 6, 7, 8, 9] (by decide) rfl
  refine cXS [] [] ((cH k ah aw adr aim ard asc ath awl alo atr sh) ++ (cW k aw sw)) (As := [.int p1]) ⟨hx, hb, hml, hown, hts⟩ hOK hz hS hA hP hD (mtX1_calendarAt l D Z hOK hlt hTh _ o_2 hc_1) (kX1_calendarAt hts q1613 rfl rfl ⟨Nat.le_of_ble_eq_true rfl, Nat.le_of_ble_eq_true rfl⟩) rfl hl.1 rfl (lv_room (Nat.le_of_ble_eq_true rfl)) ⟨Nat.le_of_ble_eq_true rfl, Nat.le_of_ble_eq_true rfl⟩ dX1_saturday_1 (fun E_ w_ ce_ q9_ H locs hq hP hD hS hce hcv hcl => ?_) (fun r_ w_ H locs hq hP hD hS => ?_)
  · obtain ⟨rfl, rfl⟩ := hq
    have hrun := moxl hrun
    cases hrun
    have hP := hP.sub (ws' := ((cH k ah aw adr aim ard asc ath awl alo atr sh) ++ (cW k aw sw))) [0, 1, 2, 3, 4, 5, 6, 7, 8, 9] rfl
    have hD := hD.sub (ws' := ((cH k ah aw adr aim ard asc ath awl alo atr sh) ++ (cW k aw sw))) [0, 1, 2, 3, 4, 5, 6, 7, 8, 9] (by decide) rfl
    exact zout hnoh hlocks hce hcv hcl hP hD hS ⟨rfl, rfl⟩ (Nat.le_of_ble_eq_true rfl) (Nat.le_of_ble_eq_true rfl)
  obtain ⟨rfl, rfl, rfl⟩ := hq
  have hrun := moxr hrun
  have hP := hP.sub (ws' := ((cH k ah aw adr aim ard asc ath awl alo atr sh) ++ (cW k aw sw))) [0, 1, 2, 3, 4, 5, 6, 7, 8, 9] rfl
  have hD := hD.sub (ws' := ((cH k ah aw adr aim ard asc ath awl alo atr sh) ++ (cW k aw sw))) [0, 1, 2, 3, 4, 5, 6, 7, 8, 9] (by decide) rfl
  refine lv_iload_n hx hb dX1_saturday_4 rfl (lv_at hl 2 rfl) ?_
  refine lv_iconst (v := (0 : Int32)) hx hb dX1_saturday_5 (by decide) ?_
  refine lv_sipush (v := (9999 : Int32)) hx hb dX1_saturday_6 (by decide) ?_
  obtain ⟨r_5, hc_4, hrun⟩ := mob_s rfl hrun
  refine cRS (ws := []) (As := [.int p2, .int (0 : Int32), .int (9999 : Int32)]) ⟨hx, hb, hml, hown, hts⟩ hOK hz hS zP0 (mtX1_in l D Z hOK _ _ _ _ hc_4) (kX1_in hts q647 rfl rfl ⟨Nat.le_of_ble_eq_true rfl, Nat.le_of_ble_eq_true rfl⟩) rfl hl.1 rfl (lv_room (Nat.le_of_ble_eq_true rfl)) ⟨Nat.le_of_ble_eq_true rfl, Nat.le_of_ble_eq_true rfl⟩ dX1_saturday_9 ?_
  obtain ⟨o_7, hc_6, hrun⟩ := mox_s rfl hrun
  have hP := hP.sub (ws' := ([] ++ ([] ++ ((cH k ah aw adr aim ard asc ath awl alo atr sh) ++ (cW k aw sw))))) [0, 1, 2, 3, 4, 5, 6, 7, 8, 9] rfl
  have hD := hD.sub (ws' := ([] ++ ([] ++ ((cH k ah aw adr aim ard asc ath awl alo atr sh) ++ (cW k aw sw))))) [0, 1, 2, 3, 4, 5, 6, 7, 8, 9] (by decide) rfl
  refine cXS [] [] ((cH k ah aw adr aim ard asc ath awl alo atr sh) ++ (cW k aw sw)) (As := [.int (bz r_5)]) ⟨hx, hb, hml, hown, hts⟩ hOK hz hS hA hP hD (mtX1_demand l D Z hOK hlt hTh _ o_7 hc_6) (kX1_demand hts q1627 rfl rfl ⟨Nat.le_of_ble_eq_true rfl, Nat.le_of_ble_eq_true rfl⟩) rfl hl.1 rfl (lv_room (Nat.le_of_ble_eq_true rfl)) ⟨Nat.le_of_ble_eq_true rfl, Nat.le_of_ble_eq_true rfl⟩ dX1_saturday_12 (fun E_ w_ ce_ q9_ H locs hq hP hD hS hce hcv hcl => ?_) (fun r_ w_ H locs hq hP hD hS => ?_)
  · obtain ⟨rfl, rfl⟩ := hq
    have hrun := moxl hrun
    cases hrun
    have hP := hP.sub (ws' := ((cH k ah aw adr aim ard asc ath awl alo atr sh) ++ (cW k aw sw))) [0, 1, 2, 3, 4, 5, 6, 7, 8, 9] rfl
    have hD := hD.sub (ws' := ((cH k ah aw adr aim ard asc ath awl alo atr sh) ++ (cW k aw sw))) [0, 1, 2, 3, 4, 5, 6, 7, 8, 9] (by decide) rfl
    exact zout hnoh hlocks hce hcv hcl hP hD hS ⟨rfl, rfl⟩ (Nat.le_of_ble_eq_true rfl) (Nat.le_of_ble_eq_true rfl)
  obtain ⟨rfl, rfl, rfl⟩ := hq
  have hrun := moxr hrun
  have hP := hP.sub (ws' := ((cH k ah aw adr aim ard asc ath awl alo atr sh) ++ (cW k aw sw))) [0, 1, 2, 3, 4, 5, 6, 7, 8, 9] rfl
  have hD := hD.sub (ws' := ((cH k ah aw adr aim ard asc ath awl alo atr sh) ++ (cW k aw sw))) [0, 1, 2, 3, 4, 5, 6, 7, 8, 9] (by decide) rfl
  refine lv_aload_n hx hb dX1_saturday_15 rfl (lv_at hl 0 rfl) ?_
  refine va_get (ci := 1) (v := .ref (aw 0)) (C := RX1) (T := TX1) (N := 10) hx hb hts in_X1 hown hK hP 0 rfl rfl 0 (by decide) (hts _ q370) (fun _ h9 => h9) rfl dX1_saturday_16 ?_
  refine lv_iload_n hx hb dX1_saturday_19 rfl (lv_at hl 1 rfl) ?_
  refine lv_iload_n hx hb dX1_saturday_20 rfl (lv_at hl 2 rfl) ?_
  obtain ⟨r_10, hc_9, hrun⟩ := mob_s rfl hrun
  refine cRV (As := [.int p1, .int p2]) (ci := 2) ⟨hx, hb, hml, hown, hts⟩ hOK hz hS (hP.sub (ws' := (cW k aw sw)) [1, 2, 3, 4, 5, 6, 7, 8, 9] rfl) (mtX2_isSaturday l D k aw Z hOK _ _ _ _ hc_9) (kX2_isSaturday hts q426 rfl rfl ⟨Nat.le_of_ble_eq_true rfl, Nat.le_of_ble_eq_true rfl⟩) 0 rfl rfl rfl hl.1 rfl (lv_room (Nat.le_of_ble_eq_true rfl)) ⟨Nat.le_of_ble_eq_true rfl, Nat.le_of_ble_eq_true rfl⟩ dX1_saturday_21 ?_
  cases hrun
  refine W.widen (k := 2) (n := 12) (Nat.le_of_ble_eq_true rfl) (Nat.le_of_ble_eq_true rfl) ?_
  exact vx_ret (retW_z hx hb hr hlocks hP hD hS ⟨_, rfl, rfl, rfl⟩ dX1_saturday_24)
def rX1_saturdays : Room := { frames := 7, cells := 1, slots := 6, locals := 109 }
noncomputable def fX1_saturdays_L15 (p1 : Int32) (sw : Wd) : Nat → Int32 → Int32 → Option ((String) ⊕ (Int32))
  | 0, _, _ => none
  | n + 1, x2_7, x3_8 =>
    if p1 ≤ x3_8 then
      some (.inr x2_7)
    else
      mob (fX2_isSaturday sw (0 : Int32) ((wd_day sw) + x3_8)) fun r_11 =>
      if r_11 = true then
        fX1_saturdays_L15 p1 sw n (x2_7 + (1 : Int32)) (x3_8 + (1 : Int32))
      else
        mob (fX2_isSaturday sw (1 : Int32) ((wd_day sw) + x3_8)) fun r_14 =>
        if r_14 = true then
          fX1_saturdays_L15 p1 sw n (x2_7 + (1 : Int32)) (x3_8 + (1 : Int32))
        else
          fX1_saturdays_L15 p1 sw n (x2_7 + (0 : Int32)) (x3_8 + (1 : Int32))
noncomputable def fX1_saturdays (sh : Kp) (sw : Wd) (p1 : Int32) : Option ((String) ⊕ (Int32)) :=
  mob (fX1_in p1 (0 : Int32) (400 : Int32)) fun r_2 =>
  mox (fX1_demand r_2) (fun E_5 => some (.inl E_5)) fun _ =>
  fX1_saturdays_L15 p1 sw mFU (0 : Int32) (0 : Int32)
theorem kX1_saturdays {R : Room} {s : State} {args : Array Value} {own : String} {idx mc ms : Nat} {rm : Room} (hts : ∀ w ∈ lw_all, w.before args s = true) (hl : Cond.methodLink own idx yX1_saturdays ∈ lw_all) (hrc : rm.cells = mc) (hrs : rm.slots = ms) (hR : rm.frames + 1 ≤ R.frames ∧ 8 + (4 + 11) + rm.locals ≤ R.locals) : CallW R s args own RX1 idx yX1_saturdays cX1_saturdays 4 (some .int) (ws_ yX1_saturdays cX1_saturdays 4 (some .int)) rm mc ms 1 :=
  cwV 1 hts (lw_V hl q1736 q1737 q107 q1738) rfl hrc hrs (by decide +kernel) hR
set_option maxHeartbeats 4000000 in
set_option maxRecDepth 100000 in
theorem mtX1_saturdays (l : Launch) (D : va_G) (k : Nat → ClassId) (ah : Nat → Nat) (aw : Nat → Nat) (adr : Nat → Nat) (aim : Nat → Nat) (ard : Nat → Nat) (asc : Nat → Nat) (ath : Nat → Nat) (awl : Nat → Nat) (alo : Nat → Nat) (atr : Nat → Nat) (Z : zZ) (hOK : zOK D zCl (zTys k) Z) (hlt : l.stackTraces = false) (hTh : zTh Z) (sh : Kp) (sw : Wd) (p1 : Int32) (o : (String) ⊕ (Int32)) (hrun : fX1_saturdays sh sw p1 = some o) :
    CtX l yX1_saturdays cX1_saturdays 4 (some .int) rX1_saturdays Z D zCl ((cH k ah aw adr aim ard asc ath awl alo atr sh) ++ (cW k aw sw)) [.ref (ah 0), .int p1] (fun r' w' => ∃ (r : Int32), o = .inr r ∧ r' = (some (.int r)) ∧ w' = ((cH k ah aw adr aim ard asc ath awl alo atr sh) ++ (cW k aw sw))) (fun E' w' => o = .inl E' ∧ w' = ((cH k ah aw adr aim ard asc ath awl alo atr sh) ++ (cW k aw sw))) 1 6 := by
  refine CtX.of (by decide) (Nat.le_of_ble_eq_true rfl) ?_
  intro p e s m args below meth c A hE hnoh hA hP hD hS hz ls hl
  obtain ⟨hx, hb, hr, hml, hown, hts, hlocks, hname⟩ := hE
  have hown : s.vm.findClass RX1 = some m.cls := hown
  have hK := hOK.1 _ _ _ hz
  have hN := hOK.2.1 _ _ _ hz
  have hl : lv_has ls 4 [(0, .ref (ah 0)), (1, .int p1)] := hl
  unfold fX1_saturdays at hrun
  refine lv_iload_n hx hb dX1_saturdays_0 rfl (lv_at hl 1 rfl) ?_
  refine lv_iconst (v := (0 : Int32)) hx hb dX1_saturdays_1 (by decide) ?_
  refine lv_sipush (v := (400 : Int32)) hx hb dX1_saturdays_2 (by decide) ?_
  obtain ⟨r_2, hc_1, hrun⟩ := mob_s rfl hrun
  refine cRS (ws := []) (As := [.int p1, .int (0 : Int32), .int (400 : Int32)]) ⟨hx, hb, hml, hown, hts⟩ hOK hz hS zP0 (mtX1_in l D Z hOK _ _ _ _ hc_1) (kX1_in hts q647 rfl rfl ⟨Nat.le_of_ble_eq_true rfl, Nat.le_of_ble_eq_true rfl⟩) rfl hl.1 rfl (lv_room (Nat.le_of_ble_eq_true rfl)) ⟨Nat.le_of_ble_eq_true rfl, Nat.le_of_ble_eq_true rfl⟩ dX1_saturdays_5 ?_
  obtain ⟨o_4, hc_3, hrun⟩ := mox_s rfl hrun
  have hP := hP.sub (ws' := ([] ++ ([] ++ ((cH k ah aw adr aim ard asc ath awl alo atr sh) ++ (cW k aw sw))))) [0, 1, 2, 3, 4, 5, 6, 7, 8, 9] rfl
  have hD := hD.sub (ws' := ([] ++ ([] ++ ((cH k ah aw adr aim ard asc ath awl alo atr sh) ++ (cW k aw sw))))) [0, 1, 2, 3, 4, 5, 6, 7, 8, 9] (by decide) rfl
  refine cXS [] [] ((cH k ah aw adr aim ard asc ath awl alo atr sh) ++ (cW k aw sw)) (As := [.int (bz r_2)]) ⟨hx, hb, hml, hown, hts⟩ hOK hz hS hA hP hD (mtX1_demand l D Z hOK hlt hTh _ o_4 hc_3) (kX1_demand hts q1627 rfl rfl ⟨Nat.le_of_ble_eq_true rfl, Nat.le_of_ble_eq_true rfl⟩) rfl hl.1 rfl (lv_room (Nat.le_of_ble_eq_true rfl)) ⟨Nat.le_of_ble_eq_true rfl, Nat.le_of_ble_eq_true rfl⟩ dX1_saturdays_8 (fun E_ w_ ce_ q9_ H locs hq hP hD hS hce hcv hcl => ?_) (fun r_ w_ H locs hq hP hD hS => ?_)
  · obtain ⟨rfl, rfl⟩ := hq
    have hrun := moxl hrun
    cases hrun
    have hP := hP.sub (ws' := ((cH k ah aw adr aim ard asc ath awl alo atr sh) ++ (cW k aw sw))) [0, 1, 2, 3, 4, 5, 6, 7, 8, 9] rfl
    have hD := hD.sub (ws' := ((cH k ah aw adr aim ard asc ath awl alo atr sh) ++ (cW k aw sw))) [0, 1, 2, 3, 4, 5, 6, 7, 8, 9] (by decide) rfl
    exact zout hnoh hlocks hce hcv hcl hP hD hS ⟨rfl, rfl⟩ (Nat.le_of_ble_eq_true rfl) (Nat.le_of_ble_eq_true rfl)
  obtain ⟨rfl, rfl, rfl⟩ := hq
  have hrun := moxr hrun
  have hP := hP.sub (ws' := ((cH k ah aw adr aim ard asc ath awl alo atr sh) ++ (cW k aw sw))) [0, 1, 2, 3, 4, 5, 6, 7, 8, 9] rfl
  have hD := hD.sub (ws' := ((cH k ah aw adr aim ard asc ath awl alo atr sh) ++ (cW k aw sw))) [0, 1, 2, 3, 4, 5, 6, 7, 8, 9] (by decide) rfl
  refine lv_iconst (v := (0 : Int32)) hx hb dX1_saturdays_11 (by decide) ?_
  refine lv_istore_n (lv' := [(2, .int (0 : Int32)), (0, .ref (ah 0)), (1, .int p1)]) hx hb dX1_saturdays_12 rfl hl (by decide) rfl (fun ls hl => ?_)
  refine lv_iconst (v := (0 : Int32)) hx hb dX1_saturdays_13 (by decide) ?_
  refine lv_istore_n (lv' := [(3, .int (0 : Int32)), (2, .int (0 : Int32)), (0, .ref (ah 0)), (1, .int p1)]) hx hb dX1_saturdays_14 rfl hl (by decide) rfl (fun ls hl => ?_)
  have hL_6 : ∀ n : Nat, ∀ (x2_7 : Int32) (x3_8 : Int32), ∀ (H : Heap) (locs : List Loc), va_P D zCl ((cH k ah aw adr aim ard asc ath awl alo atr sh) ++ (cW k aw sw)) H → va_D A ((cH k ah aw adr aim ard asc ath awl alo atr sh) ++ (cW k aw sw)) → va_S A s.heap H locs → ∀ ls : Array Slot, lv_has ls 4 [(0, .ref (ah 0)), (1, .int p1), (2, .int x2_7), (3, .int x3_8)] → fX1_saturdays_L15 p1 sw n x2_7 x3_8 = some o → W p l e rX1_saturdays s m args below meth c H locs 1 6 (vx_MQ below (QWr (fun r' w' => ∃ (r : Int32), o = .inr r ∧ r' = (some (.int r)) ∧ w' = ((cH k ah aw adr aim ard asc ath awl alo atr sh) ++ (cW k aw sw))) D zCl A) (QXr (fun E' w' => o = .inl E' ∧ w' = ((cH k ah aw adr aim ard asc ath awl alo atr sh) ++ (cW k aw sw))) D zCl A) args s 1 6 A) (F0 m 15 ls []) := by
    intro n
    induction n with
    | zero =>
      intro x2_7 x3_8 H locs hP hD hS ls hl hrun
      exact nomatch hrun
    | succ n ih =>
      intro x2_7 x3_8 H locs hP hD hS ls hl hrun
      rw [fX1_saturdays_L15.eq_2] at hrun
      refine lv_iload_n hx hb dX1_saturdays_15 rfl (lv_at hl 3 rfl) ?_
      refine lv_iload_n hx hb dX1_saturdays_16 rfl (lv_at hl 1 rfl) ?_
      refine lv_icmp_ge (tgt := 74) hx hb dX1_saturdays_17 (by decide) (fun c_9 => ?_) (fun c_9 => ?_)
      · have hrun := mif_p c_9 hrun
        refine lv_iload_n hx hb dX1_saturdays_74 rfl (lv_at hl 2 rfl) ?_
        cases hrun
        refine W.widen (k := 1) (n := 6) (Nat.le_of_ble_eq_true rfl) (Nat.le_of_ble_eq_true rfl) ?_
        exact vx_ret (retW_i hx hb hr hlocks hP hD hS ⟨_, rfl, rfl, rfl⟩ dX1_saturdays_75)
      have hrun := mif_n c_9 hrun
      refine lv_iload_n hx hb dX1_saturdays_20 rfl (lv_at hl 2 rfl) ?_
      refine lv_aload_n hx hb dX1_saturdays_21 rfl (lv_at hl 0 rfl) ?_
      refine va_get (ci := 1) (v := .ref (aw 0)) (C := RX1) (T := TX1) (N := 10) hx hb hts in_X1 hown hK hP 0 rfl rfl 0 (by decide) (hts _ q370) (fun _ h9 => h9) rfl dX1_saturdays_22 ?_
      refine lv_iconst (v := (0 : Int32)) hx hb dX1_saturdays_25 (by decide) ?_
      refine lv_aload_n hx hb dX1_saturdays_26 rfl (lv_at hl 0 rfl) ?_
      refine va_get (ci := 1) (v := .ref (aw 0)) (C := RX1) (T := TX1) (N := 10) hx hb hts in_X1 hown hK hP 0 rfl rfl 0 (by decide) (hts _ q370) (fun _ h9 => h9) rfl dX1_saturdays_27 ?_
      refine va_getN (ci := 2) (v := .int (wd_day sw)) (C := RX2) (T := TX2) (N := 21) hx hb hts in_X2 hown hK hP 1 rfl rfl 2 (by decide) (va_Nw.use rfl (hN _ (zN_of q168 rfl))) (fun _ h9 => h9) rfl dX1_saturdays_30 ?_
      refine lv_iload_n hx hb dX1_saturdays_33 rfl (lv_at hl 3 rfl) ?_
      refine lv_iadd hx hb dX1_saturdays_34 ?_
      obtain ⟨r_11, hc_10, hrun⟩ := mob_s rfl hrun
      refine cRV (As := [.int (0 : Int32), .int ((wd_day sw) + x3_8)]) (ci := 2) ⟨hx, hb, hml, hown, hts⟩ hOK hz hS (hP.sub (ws' := (cW k aw sw)) [1, 2, 3, 4, 5, 6, 7, 8, 9] rfl) (mtX2_isSaturday l D k aw Z hOK _ _ _ _ hc_10) (kX2_isSaturday hts q426 rfl rfl ⟨Nat.le_of_ble_eq_true rfl, Nat.le_of_ble_eq_true rfl⟩) 0 rfl rfl rfl hl.1 rfl (lv_room (Nat.le_of_ble_eq_true rfl)) ⟨Nat.le_of_ble_eq_true rfl, Nat.le_of_ble_eq_true rfl⟩ dX1_saturdays_35 ?_
      refine lv_if_ne (tgt := 61) hx hb dX1_saturdays_38 (by decide) (fun c_12 => ?_) (fun c_12 => ?_)
      · have hrun := mif_p (bz_nz c_12) hrun
        refine lv_iconst (v := (1 : Int32)) hx hb dX1_saturdays_61 (by decide) ?_
        refine lv_goto (tgt := 66) hx hb dX1_saturdays_62 (by decide) ?_
        refine lv_iadd hx hb dX1_saturdays_66 ?_
        refine lv_istore_n (lv' := [(2, .int (x2_7 + (1 : Int32))), (0, .ref (ah 0)), (1, .int p1), (3, .int x3_8)]) hx hb dX1_saturdays_67 rfl hl (by decide) rfl (fun ls hl => ?_)
        refine lv_iinc (v := (x3_8 + (1 : Int32))) (lv' := [(3, .int (x3_8 + (1 : Int32))), (2, .int (x2_7 + (1 : Int32))), (0, .ref (ah 0)), (1, .int p1)]) hx hb dX1_saturdays_68 hl (k := 3) rfl rfl (by decide) rfl (fun ls hl => ?_)
        refine lv_goto (tgt := 15) hx hb dX1_saturdays_71 (by decide) ?_
        exact ih (x2_7 + (1 : Int32)) (x3_8 + (1 : Int32)) _ _ hP hD hS ls (lv_sub hl [2, 3, 1, 0] rfl) hrun
      have hrun := mif_n (bz_z c_12) hrun
      refine lv_aload_n hx hb dX1_saturdays_41 rfl (lv_at hl 0 rfl) ?_
      refine va_get (ci := 1) (v := .ref (aw 0)) (C := RX1) (T := TX1) (N := 10) hx hb hts in_X1 hown hK hP 0 rfl rfl 0 (by decide) (hts _ q370) (fun _ h9 => h9) rfl dX1_saturdays_42 ?_
      refine lv_iconst (v := (1 : Int32)) hx hb dX1_saturdays_45 (by decide) ?_
      refine lv_aload_n hx hb dX1_saturdays_46 rfl (lv_at hl 0 rfl) ?_
      refine va_get (ci := 1) (v := .ref (aw 0)) (C := RX1) (T := TX1) (N := 10) hx hb hts in_X1 hown hK hP 0 rfl rfl 0 (by decide) (hts _ q370) (fun _ h9 => h9) rfl dX1_saturdays_47 ?_
      refine va_getN (ci := 2) (v := .int (wd_day sw)) (C := RX2) (T := TX2) (N := 21) hx hb hts in_X2 hown hK hP 1 rfl rfl 2 (by decide) (va_Nw.use rfl (hN _ (zN_of q168 rfl))) (fun _ h9 => h9) rfl dX1_saturdays_50 ?_
      refine lv_iload_n hx hb dX1_saturdays_53 rfl (lv_at hl 3 rfl) ?_
      refine lv_iadd hx hb dX1_saturdays_54 ?_
      obtain ⟨r_14, hc_13, hrun⟩ := mob_s rfl hrun
      refine cRV (As := [.int (1 : Int32), .int ((wd_day sw) + x3_8)]) (ci := 2) ⟨hx, hb, hml, hown, hts⟩ hOK hz hS (hP.sub (ws' := (cW k aw sw)) [1, 2, 3, 4, 5, 6, 7, 8, 9] rfl) (mtX2_isSaturday l D k aw Z hOK _ _ _ _ hc_13) (kX2_isSaturday hts q426 rfl rfl ⟨Nat.le_of_ble_eq_true rfl, Nat.le_of_ble_eq_true rfl⟩) 0 rfl rfl rfl hl.1 rfl (lv_room (Nat.le_of_ble_eq_true rfl)) ⟨Nat.le_of_ble_eq_true rfl, Nat.le_of_ble_eq_true rfl⟩ dX1_saturdays_55 ?_
      refine lv_if_eq (tgt := 65) hx hb dX1_saturdays_58 (by decide) (fun c_15 => ?_) (fun c_15 => ?_)
      · have hrun := mif_n (bz_z c_15) hrun
        refine lv_iconst (v := (0 : Int32)) hx hb dX1_saturdays_65 (by decide) ?_
        refine lv_iadd hx hb dX1_saturdays_66 ?_
        refine lv_istore_n (lv' := [(2, .int (x2_7 + (0 : Int32))), (0, .ref (ah 0)), (1, .int p1), (3, .int x3_8)]) hx hb dX1_saturdays_67 rfl hl (by decide) rfl (fun ls hl => ?_)
        refine lv_iinc (v := (x3_8 + (1 : Int32))) (lv' := [(3, .int (x3_8 + (1 : Int32))), (2, .int (x2_7 + (0 : Int32))), (0, .ref (ah 0)), (1, .int p1)]) hx hb dX1_saturdays_68 hl (k := 3) rfl rfl (by decide) rfl (fun ls hl => ?_)
        refine lv_goto (tgt := 15) hx hb dX1_saturdays_71 (by decide) ?_
        exact ih (x2_7 + (0 : Int32)) (x3_8 + (1 : Int32)) _ _ hP hD hS ls (lv_sub hl [2, 3, 1, 0] rfl) hrun
      have hrun := mif_p (bz_nz c_15) hrun
      refine lv_iconst (v := (1 : Int32)) hx hb dX1_saturdays_61 (by decide) ?_
      refine lv_goto (tgt := 66) hx hb dX1_saturdays_62 (by decide) ?_
      refine lv_iadd hx hb dX1_saturdays_66 ?_
      refine lv_istore_n (lv' := [(2, .int (x2_7 + (1 : Int32))), (0, .ref (ah 0)), (1, .int p1), (3, .int x3_8)]) hx hb dX1_saturdays_67 rfl hl (by decide) rfl (fun ls hl => ?_)
      refine lv_iinc (v := (x3_8 + (1 : Int32))) (lv' := [(3, .int (x3_8 + (1 : Int32))), (2, .int (x2_7 + (1 : Int32))), (0, .ref (ah 0)), (1, .int p1)]) hx hb dX1_saturdays_68 hl (k := 3) rfl rfl (by decide) rfl (fun ls hl => ?_)
      refine lv_goto (tgt := 15) hx hb dX1_saturdays_71 (by decide) ?_
      exact ih (x2_7 + (1 : Int32)) (x3_8 + (1 : Int32)) _ _ hP hD hS ls (lv_sub hl [2, 3, 1, 0] rfl) hrun
  exact hL_6 mFU (0 : Int32) (0 : Int32) _ _ hP hD hS ls (lv_sub hl [2, 3, 1, 0] rfl) hrun
def rX1_agree : Room := { frames := 7, cells := 1, slots := 6, locals := 109 }
noncomputable def fX1_agree_L15 (p1 : Int32) (sw : Wd) : Nat → Int32 → Int32 → Option ((String) ⊕ (Int32))
  | 0, _, _ => none
  | n + 1, x2_7, x3_8 =>
    if p1 ≤ x3_8 then
      some (.inr x2_7)
    else
      mob (fX2_isSaturday sw (0 : Int32) ((wd_day sw) + x3_8)) fun r_11 =>
      mob (fX2_isSaturday sw (1 : Int32) ((wd_day sw) + x3_8)) fun r_13 =>
      if (bz r_11) = (bz r_13) then
        fX1_agree_L15 p1 sw n (x2_7 + (1 : Int32)) (x3_8 + (1 : Int32))
      else
        fX1_agree_L15 p1 sw n (x2_7 + (0 : Int32)) (x3_8 + (1 : Int32))
noncomputable def fX1_agree (sh : Kp) (sw : Wd) (p1 : Int32) : Option ((String) ⊕ (Int32)) :=
  mob (fX1_in p1 (0 : Int32) (400 : Int32)) fun r_2 =>
  mox (fX1_demand r_2) (fun E_5 => some (.inl E_5)) fun _ =>
  fX1_agree_L15 p1 sw mFU (0 : Int32) (0 : Int32)
theorem kX1_agree {R : Room} {s : State} {args : Array Value} {own : String} {idx mc ms : Nat} {rm : Room} (hts : ∀ w ∈ lw_all, w.before args s = true) (hl : Cond.methodLink own idx yX1_agree ∈ lw_all) (hrc : rm.cells = mc) (hrs : rm.slots = ms) (hR : rm.frames + 1 ≤ R.frames ∧ 8 + (4 + 11) + rm.locals ≤ R.locals) : CallW R s args own RX1 idx yX1_agree cX1_agree 4 (some .int) (ws_ yX1_agree cX1_agree 4 (some .int)) rm mc ms 1 :=
  cwV 1 hts (lw_V hl q1843 q1844 q107 q1845) rfl hrc hrs (by decide +kernel) hR
set_option maxHeartbeats 4000000 in
set_option maxRecDepth 100000 in
theorem mtX1_agree (l : Launch) (D : va_G) (k : Nat → ClassId) (ah : Nat → Nat) (aw : Nat → Nat) (adr : Nat → Nat) (aim : Nat → Nat) (ard : Nat → Nat) (asc : Nat → Nat) (ath : Nat → Nat) (awl : Nat → Nat) (alo : Nat → Nat) (atr : Nat → Nat) (Z : zZ) (hOK : zOK D zCl (zTys k) Z) (hlt : l.stackTraces = false) (hTh : zTh Z) (sh : Kp) (sw : Wd) (p1 : Int32) (o : (String) ⊕ (Int32)) (hrun : fX1_agree sh sw p1 = some o) :
    CtX l yX1_agree cX1_agree 4 (some .int) rX1_agree Z D zCl ((cH k ah aw adr aim ard asc ath awl alo atr sh) ++ (cW k aw sw)) [.ref (ah 0), .int p1] (fun r' w' => ∃ (r : Int32), o = .inr r ∧ r' = (some (.int r)) ∧ w' = ((cH k ah aw adr aim ard asc ath awl alo atr sh) ++ (cW k aw sw))) (fun E' w' => o = .inl E' ∧ w' = ((cH k ah aw adr aim ard asc ath awl alo atr sh) ++ (cW k aw sw))) 1 6 := by
  refine CtX.of (by decide) (Nat.le_of_ble_eq_true rfl) ?_
  intro p e s m args below meth c A hE hnoh hA hP hD hS hz ls hl
  obtain ⟨hx, hb, hr, hml, hown, hts, hlocks, hname⟩ := hE
  have hown : s.vm.findClass RX1 = some m.cls := hown
  have hK := hOK.1 _ _ _ hz
  have hN := hOK.2.1 _ _ _ hz
  have hl : lv_has ls 4 [(0, .ref (ah 0)), (1, .int p1)] := hl
  unfold fX1_agree at hrun
  refine lv_iload_n hx hb dX1_agree_0 rfl (lv_at hl 1 rfl) ?_
  refine lv_iconst (v := (0 : Int32)) hx hb dX1_agree_1 (by decide) ?_
  refine lv_sipush (v := (400 : Int32)) hx hb dX1_agree_2 (by decide) ?_
  obtain ⟨r_2, hc_1, hrun⟩ := mob_s rfl hrun
  refine cRS (ws := []) (As := [.int p1, .int (0 : Int32), .int (400 : Int32)]) ⟨hx, hb, hml, hown, hts⟩ hOK hz hS zP0 (mtX1_in l D Z hOK _ _ _ _ hc_1) (kX1_in hts q647 rfl rfl ⟨Nat.le_of_ble_eq_true rfl, Nat.le_of_ble_eq_true rfl⟩) rfl hl.1 rfl (lv_room (Nat.le_of_ble_eq_true rfl)) ⟨Nat.le_of_ble_eq_true rfl, Nat.le_of_ble_eq_true rfl⟩ dX1_agree_5 ?_
  obtain ⟨o_4, hc_3, hrun⟩ := mox_s rfl hrun
  have hP := hP.sub (ws' := ([] ++ ([] ++ ((cH k ah aw adr aim ard asc ath awl alo atr sh) ++ (cW k aw sw))))) [0, 1, 2, 3, 4, 5, 6, 7, 8, 9] rfl
  have hD := hD.sub (ws' := ([] ++ ([] ++ ((cH k ah aw adr aim ard asc ath awl alo atr sh) ++ (cW k aw sw))))) [0, 1, 2, 3, 4, 5, 6, 7, 8, 9] (by decide) rfl
  refine cXS [] [] ((cH k ah aw adr aim ard asc ath awl alo atr sh) ++ (cW k aw sw)) (As := [.int (bz r_2)]) ⟨hx, hb, hml, hown, hts⟩ hOK hz hS hA hP hD (mtX1_demand l D Z hOK hlt hTh _ o_4 hc_3) (kX1_demand hts q1627 rfl rfl ⟨Nat.le_of_ble_eq_true rfl, Nat.le_of_ble_eq_true rfl⟩) rfl hl.1 rfl (lv_room (Nat.le_of_ble_eq_true rfl)) ⟨Nat.le_of_ble_eq_true rfl, Nat.le_of_ble_eq_true rfl⟩ dX1_agree_8 (fun E_ w_ ce_ q9_ H locs hq hP hD hS hce hcv hcl => ?_) (fun r_ w_ H locs hq hP hD hS => ?_)
  · obtain ⟨rfl, rfl⟩ := hq
    have hrun := moxl hrun
    cases hrun
    have hP := hP.sub (ws' := ((cH k ah aw adr aim ard asc ath awl alo atr sh) ++ (cW k aw sw))) [0, 1, 2, 3, 4, 5, 6, 7, 8, 9] rfl
    have hD := hD.sub (ws' := ((cH k ah aw adr aim ard asc ath awl alo atr sh) ++ (cW k aw sw))) [0, 1, 2, 3, 4, 5, 6, 7, 8, 9] (by decide) rfl
    exact zout hnoh hlocks hce hcv hcl hP hD hS ⟨rfl, rfl⟩ (Nat.le_of_ble_eq_true rfl) (Nat.le_of_ble_eq_true rfl)
  obtain ⟨rfl, rfl, rfl⟩ := hq
  have hrun := moxr hrun
  have hP := hP.sub (ws' := ((cH k ah aw adr aim ard asc ath awl alo atr sh) ++ (cW k aw sw))) [0, 1, 2, 3, 4, 5, 6, 7, 8, 9] rfl
  have hD := hD.sub (ws' := ((cH k ah aw adr aim ard asc ath awl alo atr sh) ++ (cW k aw sw))) [0, 1, 2, 3, 4, 5, 6, 7, 8, 9] (by decide) rfl
  refine lv_iconst (v := (0 : Int32)) hx hb dX1_agree_11 (by decide) ?_
  refine lv_istore_n (lv' := [(2, .int (0 : Int32)), (0, .ref (ah 0)), (1, .int p1)]) hx hb dX1_agree_12 rfl hl (by decide) rfl (fun ls hl => ?_)
  refine lv_iconst (v := (0 : Int32)) hx hb dX1_agree_13 (by decide) ?_
  refine lv_istore_n (lv' := [(3, .int (0 : Int32)), (2, .int (0 : Int32)), (0, .ref (ah 0)), (1, .int p1)]) hx hb dX1_agree_14 rfl hl (by decide) rfl (fun ls hl => ?_)
  have hL_6 : ∀ n : Nat, ∀ (x2_7 : Int32) (x3_8 : Int32), ∀ (H : Heap) (locs : List Loc), va_P D zCl ((cH k ah aw adr aim ard asc ath awl alo atr sh) ++ (cW k aw sw)) H → va_D A ((cH k ah aw adr aim ard asc ath awl alo atr sh) ++ (cW k aw sw)) → va_S A s.heap H locs → ∀ ls : Array Slot, lv_has ls 4 [(0, .ref (ah 0)), (1, .int p1), (2, .int x2_7), (3, .int x3_8)] → fX1_agree_L15 p1 sw n x2_7 x3_8 = some o → W p l e rX1_agree s m args below meth c H locs 1 6 (vx_MQ below (QWr (fun r' w' => ∃ (r : Int32), o = .inr r ∧ r' = (some (.int r)) ∧ w' = ((cH k ah aw adr aim ard asc ath awl alo atr sh) ++ (cW k aw sw))) D zCl A) (QXr (fun E' w' => o = .inl E' ∧ w' = ((cH k ah aw adr aim ard asc ath awl alo atr sh) ++ (cW k aw sw))) D zCl A) args s 1 6 A) (F0 m 15 ls []) := by
    intro n
    induction n with
    | zero =>
      intro x2_7 x3_8 H locs hP hD hS ls hl hrun
      exact nomatch hrun
    | succ n ih =>
      intro x2_7 x3_8 H locs hP hD hS ls hl hrun
      rw [fX1_agree_L15.eq_2] at hrun
      refine lv_iload_n hx hb dX1_agree_15 rfl (lv_at hl 3 rfl) ?_
      refine lv_iload_n hx hb dX1_agree_16 rfl (lv_at hl 1 rfl) ?_
      refine lv_icmp_ge (tgt := 71) hx hb dX1_agree_17 (by decide) (fun c_9 => ?_) (fun c_9 => ?_)
      · have hrun := mif_p c_9 hrun
        refine lv_iload_n hx hb dX1_agree_71 rfl (lv_at hl 2 rfl) ?_
        cases hrun
        refine W.widen (k := 1) (n := 6) (Nat.le_of_ble_eq_true rfl) (Nat.le_of_ble_eq_true rfl) ?_
        exact vx_ret (retW_i hx hb hr hlocks hP hD hS ⟨_, rfl, rfl, rfl⟩ dX1_agree_72)
      have hrun := mif_n c_9 hrun
      refine lv_iload_n hx hb dX1_agree_20 rfl (lv_at hl 2 rfl) ?_
      refine lv_aload_n hx hb dX1_agree_21 rfl (lv_at hl 0 rfl) ?_
      refine va_get (ci := 1) (v := .ref (aw 0)) (C := RX1) (T := TX1) (N := 10) hx hb hts in_X1 hown hK hP 0 rfl rfl 0 (by decide) (hts _ q370) (fun _ h9 => h9) rfl dX1_agree_22 ?_
      refine lv_iconst (v := (0 : Int32)) hx hb dX1_agree_25 (by decide) ?_
      refine lv_aload_n hx hb dX1_agree_26 rfl (lv_at hl 0 rfl) ?_
      refine va_get (ci := 1) (v := .ref (aw 0)) (C := RX1) (T := TX1) (N := 10) hx hb hts in_X1 hown hK hP 0 rfl rfl 0 (by decide) (hts _ q370) (fun _ h9 => h9) rfl dX1_agree_27 ?_
      refine va_getN (ci := 2) (v := .int (wd_day sw)) (C := RX2) (T := TX2) (N := 21) hx hb hts in_X2 hown hK hP 1 rfl rfl 2 (by decide) (va_Nw.use rfl (hN _ (zN_of q168 rfl))) (fun _ h9 => h9) rfl dX1_agree_30 ?_
      refine lv_iload_n hx hb dX1_agree_33 rfl (lv_at hl 3 rfl) ?_
      refine lv_iadd hx hb dX1_agree_34 ?_
      obtain ⟨r_11, hc_10, hrun⟩ := mob_s rfl hrun
      refine cRV (As := [.int (0 : Int32), .int ((wd_day sw) + x3_8)]) (ci := 2) ⟨hx, hb, hml, hown, hts⟩ hOK hz hS (hP.sub (ws' := (cW k aw sw)) [1, 2, 3, 4, 5, 6, 7, 8, 9] rfl) (mtX2_isSaturday l D k aw Z hOK _ _ _ _ hc_10) (kX2_isSaturday hts q426 rfl rfl ⟨Nat.le_of_ble_eq_true rfl, Nat.le_of_ble_eq_true rfl⟩) 0 rfl rfl rfl hl.1 rfl (lv_room (Nat.le_of_ble_eq_true rfl)) ⟨Nat.le_of_ble_eq_true rfl, Nat.le_of_ble_eq_true rfl⟩ dX1_agree_35 ?_
      refine lv_aload_n hx hb dX1_agree_38 rfl (lv_at hl 0 rfl) ?_
      refine va_get (ci := 1) (v := .ref (aw 0)) (C := RX1) (T := TX1) (N := 10) hx hb hts in_X1 hown hK hP 0 rfl rfl 0 (by decide) (hts _ q370) (fun _ h9 => h9) rfl dX1_agree_39 ?_
      refine lv_iconst (v := (1 : Int32)) hx hb dX1_agree_42 (by decide) ?_
      refine lv_aload_n hx hb dX1_agree_43 rfl (lv_at hl 0 rfl) ?_
      refine va_get (ci := 1) (v := .ref (aw 0)) (C := RX1) (T := TX1) (N := 10) hx hb hts in_X1 hown hK hP 0 rfl rfl 0 (by decide) (hts _ q370) (fun _ h9 => h9) rfl dX1_agree_44 ?_
      refine va_getN (ci := 2) (v := .int (wd_day sw)) (C := RX2) (T := TX2) (N := 21) hx hb hts in_X2 hown hK hP 1 rfl rfl 2 (by decide) (va_Nw.use rfl (hN _ (zN_of q168 rfl))) (fun _ h9 => h9) rfl dX1_agree_47 ?_
      refine lv_iload_n hx hb dX1_agree_50 rfl (lv_at hl 3 rfl) ?_
      refine lv_iadd hx hb dX1_agree_51 ?_
      obtain ⟨r_13, hc_12, hrun⟩ := mob_s rfl hrun
      refine cRV (As := [.int (1 : Int32), .int ((wd_day sw) + x3_8)]) (ci := 2) ⟨hx, hb, hml, hown, hts⟩ hOK hz hS (hP.sub (ws' := (cW k aw sw)) [1, 2, 3, 4, 5, 6, 7, 8, 9] rfl) (mtX2_isSaturday l D k aw Z hOK _ _ _ _ hc_12) (kX2_isSaturday hts q426 rfl rfl ⟨Nat.le_of_ble_eq_true rfl, Nat.le_of_ble_eq_true rfl⟩) 0 rfl rfl rfl hl.1 rfl (lv_room (Nat.le_of_ble_eq_true rfl)) ⟨Nat.le_of_ble_eq_true rfl, Nat.le_of_ble_eq_true rfl⟩ dX1_agree_52 ?_
      refine lv_icmp_ne (tgt := 62) hx hb dX1_agree_55 (by decide) (fun c_14 => ?_) (fun c_14 => ?_)
      · have hrun := mif_n c_14 hrun
        refine lv_iconst (v := (0 : Int32)) hx hb dX1_agree_62 (by decide) ?_
        refine lv_iadd hx hb dX1_agree_63 ?_
        refine lv_istore_n (lv' := [(2, .int (x2_7 + (0 : Int32))), (0, .ref (ah 0)), (1, .int p1), (3, .int x3_8)]) hx hb dX1_agree_64 rfl hl (by decide) rfl (fun ls hl => ?_)
        refine lv_iinc (v := (x3_8 + (1 : Int32))) (lv' := [(3, .int (x3_8 + (1 : Int32))), (2, .int (x2_7 + (0 : Int32))), (0, .ref (ah 0)), (1, .int p1)]) hx hb dX1_agree_65 hl (k := 3) rfl rfl (by decide) rfl (fun ls hl => ?_)
        refine lv_goto (tgt := 15) hx hb dX1_agree_68 (by decide) ?_
        exact ih (x2_7 + (0 : Int32)) (x3_8 + (1 : Int32)) _ _ hP hD hS ls (lv_sub hl [2, 3, 1, 0] rfl) hrun
      have hrun := mif_p c_14 hrun
      refine lv_iconst (v := (1 : Int32)) hx hb dX1_agree_58 (by decide) ?_
      refine lv_goto (tgt := 63) hx hb dX1_agree_59 (by decide) ?_
      refine lv_iadd hx hb dX1_agree_63 ?_
      refine lv_istore_n (lv' := [(2, .int (x2_7 + (1 : Int32))), (0, .ref (ah 0)), (1, .int p1), (3, .int x3_8)]) hx hb dX1_agree_64 rfl hl (by decide) rfl (fun ls hl => ?_)
      refine lv_iinc (v := (x3_8 + (1 : Int32))) (lv' := [(3, .int (x3_8 + (1 : Int32))), (2, .int (x2_7 + (1 : Int32))), (0, .ref (ah 0)), (1, .int p1)]) hx hb dX1_agree_65 hl (k := 3) rfl rfl (by decide) rfl (fun ls hl => ?_)
      refine lv_goto (tgt := 15) hx hb dX1_agree_68 (by decide) ?_
      exact ih (x2_7 + (1 : Int32)) (x3_8 + (1 : Int32)) _ _ hP hD hS ls (lv_sub hl [2, 3, 1, 0] rfl) hrun
  exact hL_6 mFU (0 : Int32) (0 : Int32) _ _ hP hD hS ls (lv_sub hl [2, 3, 1, 0] rfl) hrun
def rX1_need : Room := { frames := 7, cells := 1, slots := 6, locals := 109 }
noncomputable def fX1_need (sh : Kp) (sw : Wd) (p1 : Int32) : Option ((String) ⊕ (Int32)) :=
  mob (fX1_in p1 (1 : Int32) (9999 : Int32)) fun r_2 =>
  mox (fX1_demand r_2) (fun E_5 => some (.inl E_5)) fun _ =>
  some (.inr (zmx (0 : Int32) ((p1 - (wd_towers sw)) - (wd_stones sw))))
theorem kX1_need {R : Room} {s : State} {args : Array Value} {own : String} {idx mc ms : Nat} {rm : Room} (hts : ∀ w ∈ lw_all, w.before args s = true) (hl : Cond.methodLink own idx yX1_need ∈ lw_all) (hrc : rm.cells = mc) (hrs : rm.slots = ms) (hR : rm.frames + 1 ≤ R.frames ∧ 8 + (2 + 11) + rm.locals ≤ R.locals) : CallW R s args own RX1 idx yX1_need cX1_need 2 (some .int) (ws_ yX1_need cX1_need 2 (some .int)) rm mc ms 1 :=
  cwV 1 hts (lw_V hl q1850 q1851 q107 q1852) rfl hrc hrs (by decide +kernel) hR
set_option maxHeartbeats 4000000 in
set_option maxRecDepth 100000 in
theorem mtX1_need (l : Launch) (D : va_G) (k : Nat → ClassId) (ah : Nat → Nat) (aw : Nat → Nat) (adr : Nat → Nat) (aim : Nat → Nat) (ard : Nat → Nat) (asc : Nat → Nat) (ath : Nat → Nat) (awl : Nat → Nat) (alo : Nat → Nat) (atr : Nat → Nat) (Z : zZ) (hOK : zOK D zCl (zTys k) Z) (hlt : l.stackTraces = false) (hTh : zTh Z) (sh : Kp) (sw : Wd) (p1 : Int32) (o : (String) ⊕ (Int32)) (hrun : fX1_need sh sw p1 = some o) :
    CtX l yX1_need cX1_need 2 (some .int) rX1_need Z D zCl ((cH k ah aw adr aim ard asc ath awl alo atr sh) ++ (cW k aw sw)) [.ref (ah 0), .int p1] (fun r' w' => ∃ (r : Int32), o = .inr r ∧ r' = (some (.int r)) ∧ w' = ((cH k ah aw adr aim ard asc ath awl alo atr sh) ++ (cW k aw sw))) (fun E' w' => o = .inl E' ∧ w' = ((cH k ah aw adr aim ard asc ath awl alo atr sh) ++ (cW k aw sw))) 1 6 := by
  refine CtX.of (by decide) (Nat.le_of_ble_eq_true rfl) ?_
  intro p e s m args below meth c A hE hnoh hA hP hD hS hz ls hl
  obtain ⟨hx, hb, hr, hml, hown, hts, hlocks, hname⟩ := hE
  have hown : s.vm.findClass RX1 = some m.cls := hown
  have hK := hOK.1 _ _ _ hz
  have hN := hOK.2.1 _ _ _ hz
  have hl : lv_has ls 2 [(0, .ref (ah 0)), (1, .int p1)] := hl
  unfold fX1_need at hrun
  refine lv_iload_n hx hb dX1_need_0 rfl (lv_at hl 1 rfl) ?_
  refine lv_iconst (v := (1 : Int32)) hx hb dX1_need_1 (by decide) ?_
  refine lv_sipush (v := (9999 : Int32)) hx hb dX1_need_2 (by decide) ?_
  obtain ⟨r_2, hc_1, hrun⟩ := mob_s rfl hrun
  refine cRS (ws := []) (As := [.int p1, .int (1 : Int32), .int (9999 : Int32)]) ⟨hx, hb, hml, hown, hts⟩ hOK hz hS zP0 (mtX1_in l D Z hOK _ _ _ _ hc_1) (kX1_in hts q647 rfl rfl ⟨Nat.le_of_ble_eq_true rfl, Nat.le_of_ble_eq_true rfl⟩) rfl hl.1 rfl (lv_room (Nat.le_of_ble_eq_true rfl)) ⟨Nat.le_of_ble_eq_true rfl, Nat.le_of_ble_eq_true rfl⟩ dX1_need_5 ?_
  obtain ⟨o_4, hc_3, hrun⟩ := mox_s rfl hrun
  have hP := hP.sub (ws' := ([] ++ ([] ++ ((cH k ah aw adr aim ard asc ath awl alo atr sh) ++ (cW k aw sw))))) [0, 1, 2, 3, 4, 5, 6, 7, 8, 9] rfl
  have hD := hD.sub (ws' := ([] ++ ([] ++ ((cH k ah aw adr aim ard asc ath awl alo atr sh) ++ (cW k aw sw))))) [0, 1, 2, 3, 4, 5, 6, 7, 8, 9] (by decide) rfl
  refine cXS [] [] ((cH k ah aw adr aim ard asc ath awl alo atr sh) ++ (cW k aw sw)) (As := [.int (bz r_2)]) ⟨hx, hb, hml, hown, hts⟩ hOK hz hS hA hP hD (mtX1_demand l D Z hOK hlt hTh _ o_4 hc_3) (kX1_demand hts q1627 rfl rfl ⟨Nat.le_of_ble_eq_true rfl, Nat.le_of_ble_eq_true rfl⟩) rfl hl.1 rfl (lv_room (Nat.le_of_ble_eq_true rfl)) ⟨Nat.le_of_ble_eq_true rfl, Nat.le_of_ble_eq_true rfl⟩ dX1_need_8 (fun E_ w_ ce_ q9_ H locs hq hP hD hS hce hcv hcl => ?_) (fun r_ w_ H locs hq hP hD hS => ?_)
  · obtain ⟨rfl, rfl⟩ := hq
    have hrun := moxl hrun
    cases hrun
    have hP := hP.sub (ws' := ((cH k ah aw adr aim ard asc ath awl alo atr sh) ++ (cW k aw sw))) [0, 1, 2, 3, 4, 5, 6, 7, 8, 9] rfl
    have hD := hD.sub (ws' := ((cH k ah aw adr aim ard asc ath awl alo atr sh) ++ (cW k aw sw))) [0, 1, 2, 3, 4, 5, 6, 7, 8, 9] (by decide) rfl
    exact zout hnoh hlocks hce hcv hcl hP hD hS ⟨rfl, rfl⟩ (Nat.le_of_ble_eq_true rfl) (Nat.le_of_ble_eq_true rfl)
  obtain ⟨rfl, rfl, rfl⟩ := hq
  have hrun := moxr hrun
  have hP := hP.sub (ws' := ((cH k ah aw adr aim ard asc ath awl alo atr sh) ++ (cW k aw sw))) [0, 1, 2, 3, 4, 5, 6, 7, 8, 9] rfl
  have hD := hD.sub (ws' := ((cH k ah aw adr aim ard asc ath awl alo atr sh) ++ (cW k aw sw))) [0, 1, 2, 3, 4, 5, 6, 7, 8, 9] (by decide) rfl
  refine lv_iconst (v := (0 : Int32)) hx hb dX1_need_11 (by decide) ?_
  refine lv_iload_n hx hb dX1_need_12 rfl (lv_at hl 1 rfl) ?_
  refine lv_aload_n hx hb dX1_need_13 rfl (lv_at hl 0 rfl) ?_
  refine va_get (ci := 1) (v := .ref (aw 0)) (C := RX1) (T := TX1) (N := 10) hx hb hts in_X1 hown hK hP 0 rfl rfl 0 (by decide) (hts _ q370) (fun _ h9 => h9) rfl dX1_need_14 ?_
  refine va_getN (ci := 2) (v := .int (wd_towers sw)) (C := RX2) (T := TX2) (N := 21) hx hb hts in_X2 hown hK hP 1 rfl rfl 7 (by decide) (va_Nw.use rfl (hN _ (zN_of q179 rfl))) (fun _ h9 => h9) rfl dX1_need_17 ?_
  refine lv_isub hx hb dX1_need_20 ?_
  refine lv_aload_n hx hb dX1_need_21 rfl (lv_at hl 0 rfl) ?_
  refine va_get (ci := 1) (v := .ref (aw 0)) (C := RX1) (T := TX1) (N := 10) hx hb hts in_X1 hown hK hP 0 rfl rfl 0 (by decide) (hts _ q370) (fun _ h9 => h9) rfl dX1_need_22 ?_
  refine va_getN (ci := 2) (v := .int (wd_stones sw)) (C := RX2) (T := TX2) (N := 21) hx hb hts in_X2 hown hK hP 1 rfl rfl 6 (by decide) (va_Nw.use rfl (hN _ (zN_of q177 rfl))) (fun _ h9 => h9) rfl dX1_need_25 ?_
  refine lv_isub hx hb dX1_need_28 ?_
  refine va_mmax hx hb (hml.trans hl.1.symm) hown (hts _ q1801) (hts _ q553) (hts _ q122) (hts _ q554) (Nat.le_of_ble_eq_true rfl) (Nat.le_of_ble_eq_true rfl) (Nat.le_of_ble_eq_true rfl) (Nat.le_of_ble_eq_true rfl) dX1_need_29 ?_
  cases hrun
  refine W.widen (k := 1) (n := 6) (Nat.le_of_ble_eq_true rfl) (Nat.le_of_ble_eq_true rfl) ?_
  exact vx_ret (retW_i hx hb hr hlocks hP hD hS ⟨_, rfl, rfl, rfl⟩ dX1_need_32)
