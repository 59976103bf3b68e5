/-! THE ACTS -/
def rX1_go : Room := { frames := 9, cells := 12, slots := 338, locals := 321 }
noncomputable def fX1_go (sh : Kp) (sw : Wd) (p1 : Int32) (p2 : Int32) : Option ((String × Wd) ⊕ (Int32 × Wd)) :=
  mox (fX1_guestAt sh sw p1) (fun E_3 => some (.inl (E_3, sw))) fun _ =>
  mox (fX1_roomAt p2) (fun E_6 => some (.inl (E_6, sw))) fun _ =>
  mck p1 8 <|
  mck p1 8 <|
  mlt (wd_s_room sw (upd (wd_room sw) (Int32.toNatClampNeg p1) p2)) fun sw_14 =>
  some (.inr (((wd_room sw) (Int32.toNatClampNeg p1)), sw_14))
theorem kX1_go {R : Room} {s : State} {args : Array Value} {own : String} {idx mc ms : Nat} {rm : Room} (hts : ∀ w ∈ lw_all, w.before args s = true) (hl : Cond.methodLink own idx yX1_go ∈ lw_all) (hrc : rm.cells = mc) (hrs : rm.slots = ms) (hR : rm.frames + 1 ≤ R.frames ∧ 8 + (4 + 11) + rm.locals ≤ R.locals) : CallW R s args own RX1 idx yX1_go cX1_go 4 (some .int) (ws_ yX1_go cX1_go 4 (some .int)) rm mc ms 2 :=
  cwV 2 hts (lw_V hl q1634 q1635 q107 q1636) rfl hrc hrs (by decide +kernel) hR
set_option maxHeartbeats 4000000 in
set_option maxRecDepth 100000 in
theorem mtX1_go (l : Launch) (D : va_G) (k : Nat → ClassId) (ah : Nat → Nat) (aw : Nat → Nat) (adr : Nat → Nat) (aim : Nat → Nat) (ard : Nat → Nat) (asc : Nat → Nat) (ath : Nat → Nat) (awl : Nat → Nat) (alo : Nat → Nat) (atr : Nat → Nat) (Z : zZ) (hOK : zOK D zCl (zTys k) Z) (hlt : l.stackTraces = false) (hTh : zTh Z) {e0 mi : Nat} (hLs : zLs Z e0 mi) (us : List Wd) (w0 : va_W) (hw : wlP k e0 (awl 0) us w0) (sh : Kp) (sw : Wd) (p1 : Int32) (p2 : Int32) (o : (String × Wd) ⊕ (Int32 × Wd)) (hrun : fX1_go sh sw p1 p2 = some o) :
    CtX l yX1_go cX1_go 4 (some .int) rX1_go Z D zCl (((cH k ah aw adr aim ard asc ath awl alo atr sh) ++ (cW k aw sw)) ++ w0) [.ref (ah 0), .int p1, .int p2] (fun r' w' => ∃ T_ : va_W, (∃ u0 ou : Wd, fX2_likens u0 sw = some ou ∧ wlP k e0 (awl 0) (puW us ou) T_) ∧ ∃ (r : Int32) (ow : Wd), o = .inr (r, ow) ∧ r' = (some (.int r)) ∧ w' = (((cH k ah aw adr aim ard asc ath awl alo atr sh) ++ (cW k aw ow)) ++ T_)) (fun E' w' => ∃ (ow : Wd), o = .inl (E', ow) ∧ w' = (((cH k ah aw adr aim ard asc ath awl alo atr sh) ++ (cW k aw ow)) ++ w0)) 12 338 := by
  refine CtX.of (by decide) (Nat.le_of_ble_eq_true rfl) ?_
  intro p e s m args below meth c A hE hnoh hA hP hD hS hz ls hl
  obtain ⟨hx, hb, hr, hml, hown, hts, hlocks, hname⟩ := hE
  have hown : s.vm.findClass RX1 = some m.cls := hown
  have hK := hOK.1 _ _ _ hz
  have hN := hOK.2.1 _ _ _ hz
  have hl : lv_has ls 4 [(0, .ref (ah 0)), (1, .int p1), (2, .int p2)] := hl
  unfold fX1_go at hrun
  refine lv_aload_n hx hb dX1_go_0 rfl (lv_at hl 0 rfl) ?_
  refine lv_iload_n hx hb dX1_go_1 rfl (lv_at hl 1 rfl) ?_
  obtain ⟨o_2, hc_1, hrun⟩ := mox_s rfl hrun
  have hP : va_P D zCl ([] ++ (((cH k ah aw adr aim ard asc ath awl alo atr sh) ++ (cW k aw sw)) ++ ([] ++ w0))) _ := hP
  have hD : va_D A ([] ++ (((cH k ah aw adr aim ard asc ath awl alo atr sh) ++ (cW k aw sw)) ++ ([] ++ w0))) := hD
  refine cXV [] ((cH k ah aw adr aim ard asc ath awl alo atr sh) ++ (cW k aw sw)) ([] ++ w0) (As := [.int p1]) (ci := 1) ⟨hx, hb, hml, hown, hts⟩ hOK hz hS hA hP hD (mtX1_guestAt l D k ah aw adr aim ard asc ath awl alo atr Z hOK hlt hTh _ _ _ o_2 hc_1) (kX1_guestAt hts q1552 rfl rfl ⟨Nat.le_of_ble_eq_true rfl, Nat.le_of_ble_eq_true rfl⟩) 0 rfl rfl rfl hl.1 rfl (lv_room (Nat.le_of_ble_eq_true rfl)) ⟨Nat.le_of_ble_eq_true rfl, Nat.le_of_ble_eq_true rfl⟩ dX1_go_2 (fun E_ w_ ce_ q9_ H locs hq hP hD hS hce hcv hcl => ?_) (fun r_ w_ H locs hq hP hD hS => ?_)
  · obtain ⟨rfl, rfl⟩ := hq
    have hrun := moxl hrun
    cases hrun
    have hP : va_P D zCl (((cH k ah aw adr aim ard asc ath awl alo atr sh) ++ (cW k aw sw)) ++ w0) _ := hP
    have hD : va_D A (((cH k ah aw adr aim ard asc ath awl alo atr sh) ++ (cW k aw sw)) ++ w0) := hD
    exact zout hnoh hlocks hce hcv hcl hP hD hS ⟨_, rfl, rfl⟩ (Nat.le_of_ble_eq_true rfl) (Nat.le_of_ble_eq_true rfl)
  obtain ⟨rfl, rfl, rfl⟩ := hq
  have hrun := moxr hrun
  have hP : va_P D zCl (((cH k ah aw adr aim ard asc ath awl alo atr sh) ++ (cW k aw sw)) ++ w0) _ := hP
  have hD : va_D A (((cH k ah aw adr aim ard asc ath awl alo atr sh) ++ (cW k aw sw)) ++ w0) := hD
  refine lv_iload_n hx hb dX1_go_5 rfl (lv_at hl 2 rfl) ?_
  obtain ⟨o_5, hc_4, hrun⟩ := mox_s rfl hrun
  have hP : va_P D zCl ([] ++ ([] ++ (((cH k ah aw adr aim ard asc ath awl alo atr sh) ++ (cW k aw sw)) ++ w0))) _ := hP
  have hD : va_D A ([] ++ ([] ++ (((cH k ah aw adr aim ard asc ath awl alo atr sh) ++ (cW k aw sw)) ++ w0))) := hD
  refine cXS [] [] (((cH k ah aw adr aim ard asc ath awl alo atr sh) ++ (cW k aw sw)) ++ w0) (As := [.int p2]) ⟨hx, hb, hml, hown, hts⟩ hOK hz hS hA hP hD (mtX1_roomAt l D Z hOK hlt hTh _ o_5 hc_4) (kX1_roomAt hts q1603 rfl rfl ⟨Nat.le_of_ble_eq_true rfl, Nat.le_of_ble_eq_true rfl⟩) rfl hl.1 rfl (lv_room (Nat.le_of_ble_eq_true rfl)) ⟨Nat.le_of_ble_eq_true rfl, Nat.le_of_ble_eq_true rfl⟩ dX1_go_6 (fun E_ w_ ce_ q9_ H locs hq hP hD hS hce hcv hcl => ?_) (fun r_ w_ H locs hq hP hD hS => ?_)
  · obtain ⟨rfl, rfl⟩ := hq
    have hrun := moxl hrun
    cases hrun
    have hP : va_P D zCl (((cH k ah aw adr aim ard asc ath awl alo atr sh) ++ (cW k aw sw)) ++ w0) _ := hP
    have hD : va_D A (((cH k ah aw adr aim ard asc ath awl alo atr sh) ++ (cW k aw sw)) ++ w0) := hD
    exact zout hnoh hlocks hce hcv hcl hP hD hS ⟨_, rfl, rfl⟩ (Nat.le_of_ble_eq_true rfl) (Nat.le_of_ble_eq_true rfl)
  obtain ⟨rfl, rfl, rfl⟩ := hq
  have hrun := moxr hrun
  have hP : va_P D zCl (((cH k ah aw adr aim ard asc ath awl alo atr sh) ++ (cW k aw sw)) ++ w0) _ := hP
  have hD : va_D A (((cH k ah aw adr aim ard asc ath awl alo atr sh) ++ (cW k aw sw)) ++ w0) := hD
  refine lv_aload_n hx hb dX1_go_9 rfl (lv_at hl 0 rfl) ?_
  have hP : va_P D zCl ([] ++ (((cH k ah aw adr aim ard asc ath awl alo atr sh) ++ (cW k aw sw)) ++ w0)) _ := hP
  have hD : va_D A ([] ++ (((cH k ah aw adr aim ard asc ath awl alo atr sh) ++ (cW k aw sw)) ++ w0)) := hD
  refine cWVP [] (((cH k ah aw adr aim ard asc ath awl alo atr sh) ++ (cW k aw sw)) ++ w0) (As := []) (ci := 1) ⟨hx, hb, hml, hown, hts⟩ hOK hz hS hA hP hD (mtX1_remembers l D k ah aw adr aim ard asc ath awl alo atr Z hOK hLs _ _ us w0 hw) (kX1_remembers hts q1637 rfl rfl ⟨Nat.le_of_ble_eq_true rfl, Nat.le_of_ble_eq_true rfl⟩) 0 rfl rfl rfl hl.1 rfl (lv_room (Nat.le_of_ble_eq_true rfl)) ⟨Nat.le_of_ble_eq_true rfl, Nat.le_of_ble_eq_true rfl⟩ dX1_go_10 (fun r_ w_ H locs hq hP hD hS => ?_)
  obtain ⟨T_7, ub_8, ul_9, hli_10, hwl_11, rfl, rfl⟩ := hq
  have hP : va_P D zCl (((cH k ah aw adr aim ard asc ath awl alo atr sh) ++ (cW k aw sw)) ++ T_7) _ := hP
  have hD : va_D A (((cH k ah aw adr aim ard asc ath awl alo atr sh) ++ (cW k aw sw)) ++ T_7) := hD
  refine lv_aload_n hx hb dX1_go_13 rfl (lv_at hl 0 rfl) ?_
  refine va_get (ci := 1) (v := .ref (aw 0)) (C := RX1) (T := TX1) (N := 10) hx hb hts in_X1 hown hK hP 0 rfl rfl 0 (by decide) (hts _ q370) (fun _ h9 => h9) rfl dX1_go_14 ?_
  refine va_getN (ci := 2) (v := .ref (aw 2)) (C := RX2) (T := TX2) (N := 21) hx hb hts in_X2 hown hK hP 1 rfl rfl 13 (by decide) (va_Nw.use rfl (hN _ (zN_of q192 rfl))) (fun _ h9 => h9) rfl dX1_go_17 ?_
  refine lv_iload_n hx hb dX1_go_20 rfl (lv_at hl 1 rfl) ?_
  obtain ⟨hb_12, hrun⟩ := mck_s rfl hrun
  refine va_iald hx hb hK hP 3 0 rfl rfl hb_12 dX1_go_21 ?_
  refine lv_istore_n (lv' := [(3, .int ((wd_room sw) (Int32.toNatClampNeg p1))), (0, .ref (ah 0)), (1, .int p1), (2, .int p2)]) hx hb dX1_go_22 rfl hl (by decide) rfl (fun ls hl => ?_)
  refine lv_aload_n hx hb dX1_go_23 rfl (lv_at hl 1 rfl) ?_
  refine va_get (ci := 1) (v := .ref (aw 0)) (C := RX1) (T := TX1) (N := 10) hx hb hts in_X1 hown hK hP 0 rfl rfl 0 (by decide) (hts _ q370) (fun _ h9 => h9) rfl dX1_go_24 ?_
  refine va_getN (ci := 2) (v := .ref (aw 2)) (C := RX2) (T := TX2) (N := 21) hx hb hts in_X2 hown hK hP 1 rfl rfl 13 (by decide) (va_Nw.use rfl (hN _ (zN_of q192 rfl))) (fun _ h9 => h9) rfl dX1_go_27 ?_
  refine lv_iload_n hx hb dX1_go_30 rfl (lv_at hl 2 rfl) ?_
  refine lv_iload_n hx hb dX1_go_31 rfl (lv_at hl 3 rfl) ?_
  obtain ⟨hb_13, hrun⟩ := mck_s rfl hrun
  refine va_iast hx hb hK hP hD hS 3 0 rfl rfl hb_13 dX1_go_32 (fun H locs hP hD hS => ?_)
  have hP : va_P D zCl (((cH k ah aw adr aim ard asc ath awl alo atr sh) ++ (cW k aw (wd_s_room sw (upd (wd_room sw) (Int32.toNatClampNeg p1) p2)))) ++ T_7) _ := hP
  have hD : va_D A (((cH k ah aw adr aim ard asc ath awl alo atr sh) ++ (cW k aw (wd_s_room sw (upd (wd_room sw) (Int32.toNatClampNeg p1) p2)))) ++ T_7) := hD
  obtain ⟨sw_14, esw_14⟩ : ∃ z : Wd, z = (wd_s_room sw (upd (wd_room sw) (Int32.toNatClampNeg p1) p2)) := ⟨_, rfl⟩
  rw [← esw_14] at hP hD
  have hrun := mlt_s hrun sw_14 esw_14
  refine lv_iload_n hx hb dX1_go_33 rfl (lv_at hl 0 rfl) ?_
  cases hrun
  refine W.widen (k := 12) (n := 338) (Nat.le_of_ble_eq_true rfl) (Nat.le_of_ble_eq_true rfl) ?_
  exact vx_ret (retW_i hx hb hr hlocks hP hD hS ⟨T_7, ⟨ub_8, ul_9, hli_10, hwl_11⟩, _, _, rfl, rfl, rfl⟩ dX1_go_34)
def rX1_come : Room := { frames := 9, cells := 11, slots := 332, locals := 321 }
noncomputable def fX1_come (sh : Kp) (sw : Wd) (p1 : Int32) (p2 : Bool) : Option ((String × Wd) ⊕ (Bool × Wd)) :=
  mox (fX1_guestAt sh sw p1) (fun E_3 => some (.inl (E_3, sw))) fun _ =>
  mck p1 8 <|
  mck p1 8 <|
  mlt (wd_s_here sw (updb (wd_here sw) (Int32.toNatClampNeg p1) p2)) fun sw_11 =>
  if (bz ((wd_here sw) (Int32.toNatClampNeg p1))) = (bz p2) then
    some (.inr (false, sw_11))
  else
    some (.inr (true, sw_11))
theorem kX1_come {R : Room} {s : State} {args : Array Value} {own : String} {idx mc ms : Nat} {rm : Room} (hts : ∀ w ∈ lw_all, w.before args s = true) (hl : Cond.methodLink own idx yX1_come ∈ lw_all) (hrc : rm.cells = mc) (hrs : rm.slots = ms) (hR : rm.frames + 1 ≤ R.frames ∧ 8 + (4 + 11) + rm.locals ≤ R.locals) : CallW R s args own RX1 idx yX1_come cX1_come 4 (some .boolean) (ws_ yX1_come cX1_come 4 (some .boolean)) rm mc ms 2 :=
  cwV 2 hts (lw_V hl q1645 q1646 q107 q1647) rfl hrc hrs (by decide +kernel) hR
set_option maxHeartbeats 4000000 in
set_option maxRecDepth 100000 in
theorem mtX1_come (l : Launch) (D : va_G) (k : Nat → ClassId) (ah : Nat → Nat) (aw : Nat → Nat) (adr : Nat → Nat) (aim : Nat → Nat) (ard : Nat → Nat) (asc : Nat → Nat) (ath : Nat → Nat) (awl : Nat → Nat) (alo : Nat → Nat) (atr : Nat → Nat) (Z : zZ) (hOK : zOK D zCl (zTys k) Z) (hlt : l.stackTraces = false) (hTh : zTh Z) {e0 mi : Nat} (hLs : zLs Z e0 mi) (us : List Wd) (w0 : va_W) (hw : wlP k e0 (awl 0) us w0) (sh : Kp) (sw : Wd) (p1 : Int32) (p2 : Bool) (o : (String × Wd) ⊕ (Bool × Wd)) (hrun : fX1_come sh sw p1 p2 = some o) :
    CtX l yX1_come cX1_come 4 (some .boolean) rX1_come Z D zCl (((cH k ah aw adr aim ard asc ath awl alo atr sh) ++ (cW k aw sw)) ++ w0) [.ref (ah 0), .int p1, .int (bz p2)] (fun r' w' => ∃ T_ : va_W, (∃ u0 ou : Wd, fX2_likens u0 sw = some ou ∧ wlP k e0 (awl 0) (puW us ou) T_) ∧ ∃ (r : Bool) (ow : Wd), o = .inr (r, ow) ∧ r' = (some (.int (bz r))) ∧ w' = (((cH k ah aw adr aim ard asc ath awl alo atr sh) ++ (cW k aw ow)) ++ T_)) (fun E' w' => ∃ (ow : Wd), o = .inl (E', ow) ∧ w' = (((cH k ah aw adr aim ard asc ath awl alo atr sh) ++ (cW k aw ow)) ++ w0)) 11 332 := by
  refine CtX.of (by decide) (Nat.le_of_ble_eq_true rfl) ?_
  intro p e s m args below meth c A hE hnoh hA hP hD hS hz ls hl
  obtain ⟨hx, hb, hr, hml, hown, hts, hlocks, hname⟩ := hE
  have hown : s.vm.findClass RX1 = some m.cls := hown
  have hK := hOK.1 _ _ _ hz
  have hN := hOK.2.1 _ _ _ hz
  have hl : lv_has ls 4 [(0, .ref (ah 0)), (1, .int p1), (2, .int (bz p2))] := hl
  unfold fX1_come at hrun
  refine lv_aload_n hx hb dX1_come_0 rfl (lv_at hl 0 rfl) ?_
  refine lv_iload_n hx hb dX1_come_1 rfl (lv_at hl 1 rfl) ?_
  obtain ⟨o_2, hc_1, hrun⟩ := mox_s rfl hrun
  have hP : va_P D zCl ([] ++ (((cH k ah aw adr aim ard asc ath awl alo atr sh) ++ (cW k aw sw)) ++ ([] ++ w0))) _ := hP
  have hD : va_D A ([] ++ (((cH k ah aw adr aim ard asc ath awl alo atr sh) ++ (cW k aw sw)) ++ ([] ++ w0))) := hD
  refine cXV [] ((cH k ah aw adr aim ard asc ath awl alo atr sh) ++ (cW k aw sw)) ([] ++ w0) (As := [.int p1]) (ci := 1) ⟨hx, hb, hml, hown, hts⟩ hOK hz hS hA hP hD (mtX1_guestAt l D k ah aw adr aim ard asc ath awl alo atr Z hOK hlt hTh _ _ _ o_2 hc_1) (kX1_guestAt hts q1552 rfl rfl ⟨Nat.le_of_ble_eq_true rfl, Nat.le_of_ble_eq_true rfl⟩) 0 rfl rfl rfl hl.1 rfl (lv_room (Nat.le_of_ble_eq_true rfl)) ⟨Nat.le_of_ble_eq_true rfl, Nat.le_of_ble_eq_true rfl⟩ dX1_come_2 (fun E_ w_ ce_ q9_ H locs hq hP hD hS hce hcv hcl => ?_) (fun r_ w_ H locs hq hP hD hS => ?_)
  · obtain ⟨rfl, rfl⟩ := hq
    have hrun := moxl hrun
    cases hrun
    have hP : va_P D zCl (((cH k ah aw adr aim ard asc ath awl alo atr sh) ++ (cW k aw sw)) ++ w0) _ := hP
    have hD : va_D A (((cH k ah aw adr aim ard asc ath awl alo atr sh) ++ (cW k aw sw)) ++ w0) := hD
    exact zout hnoh hlocks hce hcv hcl hP hD hS ⟨_, rfl, rfl⟩ (Nat.le_of_ble_eq_true rfl) (Nat.le_of_ble_eq_true rfl)
  obtain ⟨rfl, rfl, rfl⟩ := hq
  have hrun := moxr hrun
  have hP : va_P D zCl (((cH k ah aw adr aim ard asc ath awl alo atr sh) ++ (cW k aw sw)) ++ w0) _ := hP
  have hD : va_D A (((cH k ah aw adr aim ard asc ath awl alo atr sh) ++ (cW k aw sw)) ++ w0) := hD
  refine lv_aload_n hx hb dX1_come_5 rfl (lv_at hl 0 rfl) ?_
  have hP : va_P D zCl ([] ++ (((cH k ah aw adr aim ard asc ath awl alo atr sh) ++ (cW k aw sw)) ++ w0)) _ := hP
  have hD : va_D A ([] ++ (((cH k ah aw adr aim ard asc ath awl alo atr sh) ++ (cW k aw sw)) ++ w0)) := hD
  refine cWVP [] (((cH k ah aw adr aim ard asc ath awl alo atr sh) ++ (cW k aw sw)) ++ w0) (As := []) (ci := 1) ⟨hx, hb, hml, hown, hts⟩ hOK hz hS hA hP hD (mtX1_remembers l D k ah aw adr aim ard asc ath awl alo atr Z hOK hLs _ _ us w0 hw) (kX1_remembers hts q1637 rfl rfl ⟨Nat.le_of_ble_eq_true rfl, Nat.le_of_ble_eq_true rfl⟩) 0 rfl rfl rfl hl.1 rfl (lv_room (Nat.le_of_ble_eq_true rfl)) ⟨Nat.le_of_ble_eq_true rfl, Nat.le_of_ble_eq_true rfl⟩ dX1_come_6 (fun r_ w_ H locs hq hP hD hS => ?_)
  obtain ⟨T_4, ub_5, ul_6, hli_7, hwl_8, rfl, rfl⟩ := hq
  have hP : va_P D zCl (((cH k ah aw adr aim ard asc ath awl alo atr sh) ++ (cW k aw sw)) ++ T_4) _ := hP
  have hD : va_D A (((cH k ah aw adr aim ard asc ath awl alo atr sh) ++ (cW k aw sw)) ++ T_4) := hD
  refine lv_aload_n hx hb dX1_come_9 rfl (lv_at hl 0 rfl) ?_
  refine va_get (ci := 1) (v := .ref (aw 0)) (C := RX1) (T := TX1) (N := 10) hx hb hts in_X1 hown hK hP 0 rfl rfl 0 (by decide) (hts _ q370) (fun _ h9 => h9) rfl dX1_come_10 ?_
  refine va_getN (ci := 2) (v := .ref (aw 6)) (C := RX2) (T := TX2) (N := 21) hx hb hts in_X2 hown hK hP 1 rfl rfl 17 (by decide) (va_Nw.use rfl (hN _ (zN_of q202 rfl))) (fun _ h9 => h9) rfl dX1_come_13 ?_
  refine lv_iload_n hx hb dX1_come_16 rfl (lv_at hl 1 rfl) ?_
  obtain ⟨hb_9, hrun⟩ := mck_s rfl hrun
  refine va_zald hx hb hK hP 7 1 rfl rfl hb_9 dX1_come_17 ?_
  refine lv_istore_n (lv' := [(3, .int (bz ((wd_here sw) (Int32.toNatClampNeg p1)))), (0, .ref (ah 0)), (1, .int p1), (2, .int (bz p2))]) hx hb dX1_come_18 rfl hl (by decide) rfl (fun ls hl => ?_)
  refine lv_aload_n hx hb dX1_come_19 rfl (lv_at hl 1 rfl) ?_
  refine va_get (ci := 1) (v := .ref (aw 0)) (C := RX1) (T := TX1) (N := 10) hx hb hts in_X1 hown hK hP 0 rfl rfl 0 (by decide) (hts _ q370) (fun _ h9 => h9) rfl dX1_come_20 ?_
  refine va_getN (ci := 2) (v := .ref (aw 6)) (C := RX2) (T := TX2) (N := 21) hx hb hts in_X2 hown hK hP 1 rfl rfl 17 (by decide) (va_Nw.use rfl (hN _ (zN_of q202 rfl))) (fun _ h9 => h9) rfl dX1_come_23 ?_
  refine lv_iload_n hx hb dX1_come_26 rfl (lv_at hl 2 rfl) ?_
  refine lv_iload_n hx hb dX1_come_27 rfl (lv_at hl 3 rfl) ?_
  obtain ⟨hb_10, hrun⟩ := mck_s rfl hrun
  refine va_zast (x := bz p2) hx hb hK hP hD hS 7 1 rfl rfl hb_10 dX1_come_28 (fun H locs hP hD hS => ?_)
  rw [bz_upd] at hP hD
  have hP : va_P D zCl (((cH k ah aw adr aim ard asc ath awl alo atr sh) ++ (cW k aw (wd_s_here sw (updb (wd_here sw) (Int32.toNatClampNeg p1) p2)))) ++ T_4) _ := hP
  have hD : va_D A (((cH k ah aw adr aim ard asc ath awl alo atr sh) ++ (cW k aw (wd_s_here sw (updb (wd_here sw) (Int32.toNatClampNeg p1) p2)))) ++ T_4) := hD
  obtain ⟨sw_11, esw_11⟩ : ∃ z : Wd, z = (wd_s_here sw (updb (wd_here sw) (Int32.toNatClampNeg p1) p2)) := ⟨_, rfl⟩
  rw [← esw_11] at hP hD
  have hrun := mlt_s hrun sw_11 esw_11
  refine lv_iload_n hx hb dX1_come_29 rfl (lv_at hl 0 rfl) ?_
  refine lv_iload_n hx hb dX1_come_30 rfl (lv_at hl 3 rfl) ?_
  refine lv_icmp_eq (tgt := 38) hx hb dX1_come_31 (by decide) (fun c_12 => ?_) (fun c_12 => ?_)
  · have hrun := mif_p c_12 hrun
    refine lv_iconst (v := (0 : Int32)) hx hb dX1_come_38 (by decide) ?_
    cases hrun
    refine W.widen (k := 11) (n := 332) (Nat.le_of_ble_eq_true rfl) (Nat.le_of_ble_eq_true rfl) ?_
    exact vx_ret (retW_z (v := false) hx hb hr hlocks hP hD hS ⟨T_4, ⟨ub_5, ul_6, hli_7, hwl_8⟩, _, _, rfl, rfl, rfl⟩ dX1_come_39)
  have hrun := mif_n c_12 hrun
  refine lv_iconst (v := (1 : Int32)) hx hb dX1_come_34 (by decide) ?_
  refine lv_goto (tgt := 39) hx hb dX1_come_35 (by decide) ?_
  cases hrun
  refine W.widen (k := 11) (n := 332) (Nat.le_of_ble_eq_true rfl) (Nat.le_of_ble_eq_true rfl) ?_
  exact vx_ret (retW_z (v := true) hx hb hr hlocks hP hD hS ⟨T_4, ⟨ub_5, ul_6, hli_7, hwl_8⟩, _, _, rfl, rfl, rfl⟩ dX1_come_39)
def rX1_key : Room := { frames := 9, cells := 11, slots := 332, locals := 321 }
noncomputable def fX1_key (sh : Kp) (sw : Wd) (p1 : Int32) (p2 : Bool) : Option ((String × Wd) ⊕ (Bool × Wd)) :=
  mox (fX1_guestAt sh sw p1) (fun E_3 => some (.inl (E_3, sw))) fun _ =>
  mck p1 8 <|
  mck p1 8 <|
  mlt (wd_s_key sw (updb (wd_key sw) (Int32.toNatClampNeg p1) p2)) fun sw_11 =>
  if (bz ((wd_key sw) (Int32.toNatClampNeg p1))) = (bz p2) then
    some (.inr (false, sw_11))
  else
    some (.inr (true, sw_11))
theorem kX1_key {R : Room} {s : State} {args : Array Value} {own : String} {idx mc ms : Nat} {rm : Room} (hts : ∀ w ∈ lw_all, w.before args s = true) (hl : Cond.methodLink own idx yX1_key ∈ lw_all) (hrc : rm.cells = mc) (hrs : rm.slots = ms) (hR : rm.frames + 1 ≤ R.frames ∧ 8 + (4 + 11) + rm.locals ≤ R.locals) : CallW R s args own RX1 idx yX1_key cX1_key 4 (some .boolean) (ws_ yX1_key cX1_key 4 (some .boolean)) rm mc ms 2 :=
  cwV 2 hts (lw_V hl q1652 q1653 q107 q1654) rfl hrc hrs (by decide +kernel) hR
set_option maxHeartbeats 4000000 in
set_option maxRecDepth 100000 in
theorem mtX1_key (l : Launch) (D : va_G) (k : Nat → ClassId) (ah : Nat → Nat) (aw : Nat → Nat) (adr : Nat → Nat) (aim : Nat → Nat) (ard : Nat → Nat) (asc : Nat → Nat) (ath : Nat → Nat) (awl : Nat → Nat) (alo : Nat → Nat) (atr : Nat → Nat) (Z : zZ) (hOK : zOK D zCl (zTys k) Z) (hlt : l.stackTraces = false) (hTh : zTh Z) {e0 mi : Nat} (hLs : zLs Z e0 mi) (us : List Wd) (w0 : va_W) (hw : wlP k e0 (awl 0) us w0) (sh : Kp) (sw : Wd) (p1 : Int32) (p2 : Bool) (o : (String × Wd) ⊕ (Bool × Wd)) (hrun : fX1_key sh sw p1 p2 = some o) :
    CtX l yX1_key cX1_key 4 (some .boolean) rX1_key Z D zCl (((cH k ah aw adr aim ard asc ath awl alo atr sh) ++ (cW k aw sw)) ++ w0) [.ref (ah 0), .int p1, .int (bz p2)] (fun r' w' => ∃ T_ : va_W, (∃ u0 ou : Wd, fX2_likens u0 sw = some ou ∧ wlP k e0 (awl 0) (puW us ou) T_) ∧ ∃ (r : Bool) (ow : Wd), o = .inr (r, ow) ∧ r' = (some (.int (bz r))) ∧ w' = (((cH k ah aw adr aim ard asc ath awl alo atr sh) ++ (cW k aw ow)) ++ T_)) (fun E' w' => ∃ (ow : Wd), o = .inl (E', ow) ∧ w' = (((cH k ah aw adr aim ard asc ath awl alo atr sh) ++ (cW k aw ow)) ++ w0)) 11 332 := by
  refine CtX.of (by decide) (Nat.le_of_ble_eq_true rfl) ?_
  intro p e s m args below meth c A hE hnoh hA hP hD hS hz ls hl
  obtain ⟨hx, hb, hr, hml, hown, hts, hlocks, hname⟩ := hE
  have hown : s.vm.findClass RX1 = some m.cls := hown
  have hK := hOK.1 _ _ _ hz
  have hN := hOK.2.1 _ _ _ hz
  have hl : lv_has ls 4 [(0, .ref (ah 0)), (1, .int p1), (2, .int (bz p2))] := hl
  unfold fX1_key at hrun
  refine lv_aload_n hx hb dX1_key_0 rfl (lv_at hl 0 rfl) ?_
  refine lv_iload_n hx hb dX1_key_1 rfl (lv_at hl 1 rfl) ?_
  obtain ⟨o_2, hc_1, hrun⟩ := mox_s rfl hrun
  have hP : va_P D zCl ([] ++ (((cH k ah aw adr aim ard asc ath awl alo atr sh) ++ (cW k aw sw)) ++ ([] ++ w0))) _ := hP
  have hD : va_D A ([] ++ (((cH k ah aw adr aim ard asc ath awl alo atr sh) ++ (cW k aw sw)) ++ ([] ++ w0))) := hD
  refine cXV [] ((cH k ah aw adr aim ard asc ath awl alo atr sh) ++ (cW k aw sw)) ([] ++ w0) (As := [.int p1]) (ci := 1) ⟨hx, hb, hml, hown, hts⟩ hOK hz hS hA hP hD (mtX1_guestAt l D k ah aw adr aim ard asc ath awl alo atr Z hOK hlt hTh _ _ _ o_2 hc_1) (kX1_guestAt hts q1552 rfl rfl ⟨Nat.le_of_ble_eq_true rfl, Nat.le_of_ble_eq_true rfl⟩) 0 rfl rfl rfl hl.1 rfl (lv_room (Nat.le_of_ble_eq_true rfl)) ⟨Nat.le_of_ble_eq_true rfl, Nat.le_of_ble_eq_true rfl⟩ dX1_key_2 (fun E_ w_ ce_ q9_ H locs hq hP hD hS hce hcv hcl => ?_) (fun r_ w_ H locs hq hP hD hS => ?_)
  · obtain ⟨rfl, rfl⟩ := hq
    have hrun := moxl hrun
    cases hrun
    have hP : va_P D zCl (((cH k ah aw adr aim ard asc ath awl alo atr sh) ++ (cW k aw sw)) ++ w0) _ := hP
    have hD : va_D A (((cH k ah aw adr aim ard asc ath awl alo atr sh) ++ (cW k aw sw)) ++ w0) := hD
    exact zout hnoh hlocks hce hcv hcl hP hD hS ⟨_, rfl, rfl⟩ (Nat.le_of_ble_eq_true rfl) (Nat.le_of_ble_eq_true rfl)
  obtain ⟨rfl, rfl, rfl⟩ := hq
  have hrun := moxr hrun
  have hP : va_P D zCl (((cH k ah aw adr aim ard asc ath awl alo atr sh) ++ (cW k aw sw)) ++ w0) _ := hP
  have hD : va_D A (((cH k ah aw adr aim ard asc ath awl alo atr sh) ++ (cW k aw sw)) ++ w0) := hD
  refine lv_aload_n hx hb dX1_key_5 rfl (lv_at hl 0 rfl) ?_
  have hP : va_P D zCl ([] ++ (((cH k ah aw adr aim ard asc ath awl alo atr sh) ++ (cW k aw sw)) ++ w0)) _ := hP
  have hD : va_D A ([] ++ (((cH k ah aw adr aim ard asc ath awl alo atr sh) ++ (cW k aw sw)) ++ w0)) := hD
  refine cWVP [] (((cH k ah aw adr aim ard asc ath awl alo atr sh) ++ (cW k aw sw)) ++ w0) (As := []) (ci := 1) ⟨hx, hb, hml, hown, hts⟩ hOK hz hS hA hP hD (mtX1_remembers l D k ah aw adr aim ard asc ath awl alo atr Z hOK hLs _ _ us w0 hw) (kX1_remembers hts q1637 rfl rfl ⟨Nat.le_of_ble_eq_true rfl, Nat.le_of_ble_eq_true rfl⟩) 0 rfl rfl rfl hl.1 rfl (lv_room (Nat.le_of_ble_eq_true rfl)) ⟨Nat.le_of_ble_eq_true rfl, Nat.le_of_ble_eq_true rfl⟩ dX1_key_6 (fun r_ w_ H locs hq hP hD hS => ?_)
  obtain ⟨T_4, ub_5, ul_6, hli_7, hwl_8, rfl, rfl⟩ := hq
  have hP : va_P D zCl (((cH k ah aw adr aim ard asc ath awl alo atr sh) ++ (cW k aw sw)) ++ T_4) _ := hP
  have hD : va_D A (((cH k ah aw adr aim ard asc ath awl alo atr sh) ++ (cW k aw sw)) ++ T_4) := hD
  refine lv_aload_n hx hb dX1_key_9 rfl (lv_at hl 0 rfl) ?_
  refine va_get (ci := 1) (v := .ref (aw 0)) (C := RX1) (T := TX1) (N := 10) hx hb hts in_X1 hown hK hP 0 rfl rfl 0 (by decide) (hts _ q370) (fun _ h9 => h9) rfl dX1_key_10 ?_
  refine va_getN (ci := 2) (v := .ref (aw 5)) (C := RX2) (T := TX2) (N := 21) hx hb hts in_X2 hown hK hP 1 rfl rfl 16 (by decide) (va_Nw.use rfl (hN _ (zN_of q199 rfl))) (fun _ h9 => h9) rfl dX1_key_13 ?_
  refine lv_iload_n hx hb dX1_key_16 rfl (lv_at hl 1 rfl) ?_
  obtain ⟨hb_9, hrun⟩ := mck_s rfl hrun
  refine va_zald hx hb hK hP 6 1 rfl rfl hb_9 dX1_key_17 ?_
  refine lv_istore_n (lv' := [(3, .int (bz ((wd_key sw) (Int32.toNatClampNeg p1)))), (0, .ref (ah 0)), (1, .int p1), (2, .int (bz p2))]) hx hb dX1_key_18 rfl hl (by decide) rfl (fun ls hl => ?_)
  refine lv_aload_n hx hb dX1_key_19 rfl (lv_at hl 1 rfl) ?_
  refine va_get (ci := 1) (v := .ref (aw 0)) (C := RX1) (T := TX1) (N := 10) hx hb hts in_X1 hown hK hP 0 rfl rfl 0 (by decide) (hts _ q370) (fun _ h9 => h9) rfl dX1_key_20 ?_
  refine va_getN (ci := 2) (v := .ref (aw 5)) (C := RX2) (T := TX2) (N := 21) hx hb hts in_X2 hown hK hP 1 rfl rfl 16 (by decide) (va_Nw.use rfl (hN _ (zN_of q199 rfl))) (fun _ h9 => h9) rfl dX1_key_23 ?_
  refine lv_iload_n hx hb dX1_key_26 rfl (lv_at hl 2 rfl) ?_
  refine lv_iload_n hx hb dX1_key_27 rfl (lv_at hl 3 rfl) ?_
  obtain ⟨hb_10, hrun⟩ := mck_s rfl hrun
  refine va_zast (x := bz p2) hx hb hK hP hD hS 6 1 rfl rfl hb_10 dX1_key_28 (fun H locs hP hD hS => ?_)
  rw [bz_upd] at hP hD
  have hP : va_P D zCl (((cH k ah aw adr aim ard asc ath awl alo atr sh) ++ (cW k aw (wd_s_key sw (updb (wd_key sw) (Int32.toNatClampNeg p1) p2)))) ++ T_4) _ := hP
  have hD : va_D A (((cH k ah aw adr aim ard asc ath awl alo atr sh) ++ (cW k aw (wd_s_key sw (updb (wd_key sw) (Int32.toNatClampNeg p1) p2)))) ++ T_4) := hD
  obtain ⟨sw_11, esw_11⟩ : ∃ z : Wd, z = (wd_s_key sw (updb (wd_key sw) (Int32.toNatClampNeg p1) p2)) := ⟨_, rfl⟩
  rw [← esw_11] at hP hD
  have hrun := mlt_s hrun sw_11 esw_11
  refine lv_iload_n hx hb dX1_key_29 rfl (lv_at hl 0 rfl) ?_
  refine lv_iload_n hx hb dX1_key_30 rfl (lv_at hl 3 rfl) ?_
  refine lv_icmp_eq (tgt := 38) hx hb dX1_key_31 (by decide) (fun c_12 => ?_) (fun c_12 => ?_)
  · have hrun := mif_p c_12 hrun
    refine lv_iconst (v := (0 : Int32)) hx hb dX1_key_38 (by decide) ?_
    cases hrun
    refine W.widen (k := 11) (n := 332) (Nat.le_of_ble_eq_true rfl) (Nat.le_of_ble_eq_true rfl) ?_
    exact vx_ret (retW_z (v := false) hx hb hr hlocks hP hD hS ⟨T_4, ⟨ub_5, ul_6, hli_7, hwl_8⟩, _, _, rfl, rfl, rfl⟩ dX1_key_39)
  have hrun := mif_n c_12 hrun
  refine lv_iconst (v := (1 : Int32)) hx hb dX1_key_34 (by decide) ?_
  refine lv_goto (tgt := 39) hx hb dX1_key_35 (by decide) ?_
  cases hrun
  refine W.widen (k := 11) (n := 332) (Nat.le_of_ble_eq_true rfl) (Nat.le_of_ble_eq_true rfl) ?_
  exact vx_ret (retW_z (v := true) hx hb hr hlocks hP hD hS ⟨T_4, ⟨ub_5, ul_6, hli_7, hwl_8⟩, _, _, rfl, rfl, rfl⟩ dX1_key_39)
def rX1_hole : Room := { frames := 9, cells := 13, slots := 344, locals := 321 }
noncomputable def fX1_hole (sh : Kp) (sw : Wd) (p1 : Int32) (p2 : Int32) (p3 : Bool) : Option ((String × Wd) ⊕ (Bool × Wd)) :=
  mox (fX1_roomAt p1) (fun E_3 => some (.inl (E_3, sw))) fun _ =>
  mox (fX1_roomAt p2) (fun E_6 => some (.inl (E_6, sw))) fun _ =>
  mjn (fun (y_9 : Bool) =>
  mox (fX1_demand y_9) (fun E_13 => some (.inl (E_13, sw))) fun _ =>
  mck p1 8 <|
  mob (fX1_has ((wd_holes sw) (Int32.toNatClampNeg p1)) p2) fun r_21 =>
  mjn (fun (y_24 : Int32) =>
  mck p1 8 <|
  mlt (wd_s_holes sw (upd (wd_holes sw) (Int32.toNatClampNeg p1) y_24)) fun sw_27 =>
  if (bz r_21) = (bz p3) then
    some (.inr (false, sw_27))
  else
    some (.inr (true, sw_27))) fun K_25 =>
  if p3 = true then
    mck p1 8 <|
    K_25 (((wd_holes sw) (Int32.toNatClampNeg p1)) ||| ((1 : Int32) <<< (p2 &&& (31 : Int32))))
  else
    mck p1 8 <|
    K_25 (((wd_holes sw) (Int32.toNatClampNeg p1)) &&& (((1 : Int32) <<< (p2 &&& (31 : Int32))) ^^^ (-1 : Int32)))) fun K_10 =>
  if p1 = p2 then
    K_10 false
  else
    K_10 true
theorem kX1_hole {R : Room} {s : State} {args : Array Value} {own : String} {idx mc ms : Nat} {rm : Room} (hts : ∀ w ∈ lw_all, w.before args s = true) (hl : Cond.methodLink own idx yX1_hole ∈ lw_all) (hrc : rm.cells = mc) (hrs : rm.slots = ms) (hR : rm.frames + 1 ≤ R.frames ∧ 8 + (6 + 11) + rm.locals ≤ R.locals) : CallW R s args own RX1 idx yX1_hole cX1_hole 6 (some .boolean) (ws_ yX1_hole cX1_hole 6 (some .boolean)) rm mc ms 3 :=
  cwV 3 hts (lw_V hl q1659 q1660 q107 q1661) rfl hrc hrs (by decide +kernel) hR
set_option maxHeartbeats 4000000 in
set_option maxRecDepth 100000 in
theorem mtX1_hole (l : Launch) (D : va_G) (k : Nat → ClassId) (ah : Nat → Nat) (aw : Nat → Nat) (adr : Nat → Nat) (aim : Nat → Nat) (ard : Nat → Nat) (asc : Nat → Nat) (ath : Nat → Nat) (awl : Nat → Nat) (alo : Nat → Nat) (atr : Nat → Nat) (Z : zZ) (hOK : zOK D zCl (zTys k) Z) (hlt : l.stackTraces = false) (hTh : zTh Z) {e0 mi : Nat} (hLs : zLs Z e0 mi) (us : List Wd) (w0 : va_W) (hw : wlP k e0 (awl 0) us w0) (sh : Kp) (sw : Wd) (p1 : Int32) (p2 : Int32) (p3 : Bool) (o : (String × Wd) ⊕ (Bool × Wd)) (hrun : fX1_hole sh sw p1 p2 p3 = some o) :
    CtX l yX1_hole cX1_hole 6 (some .boolean) rX1_hole Z D zCl (((cH k ah aw adr aim ard asc ath awl alo atr sh) ++ (cW k aw sw)) ++ w0) [.ref (ah 0), .int p1, .int p2, .int (bz p3)] (fun r' w' => ∃ T_ : va_W, (∃ u0 ou : Wd, fX2_likens u0 sw = some ou ∧ wlP k e0 (awl 0) (puW us ou) T_) ∧ ∃ (r : Bool) (ow : Wd), o = .inr (r, ow) ∧ r' = (some (.int (bz r))) ∧ w' = (((cH k ah aw adr aim ard asc ath awl alo atr sh) ++ (cW k aw ow)) ++ T_)) (fun E' w' => ∃ (ow : Wd), o = .inl (E', ow) ∧ w' = (((cH k ah aw adr aim ard asc ath awl alo atr sh) ++ (cW k aw ow)) ++ w0)) 13 344 := by
  refine CtX.of (by decide) (Nat.le_of_ble_eq_true rfl) ?_
  intro p e s m args below meth c A hE hnoh hA hP hD hS hz ls hl
  obtain ⟨hx, hb, hr, hml, hown, hts, hlocks, hname⟩ := hE
  have hown : s.vm.findClass RX1 = some m.cls := hown
  have hK := hOK.1 _ _ _ hz
  have hN := hOK.2.1 _ _ _ hz
  have hl : lv_has ls 6 [(0, .ref (ah 0)), (1, .int p1), (2, .int p2), (3, .int (bz p3))] := hl
  unfold fX1_hole at hrun
  refine lv_iload_n hx hb dX1_hole_0 rfl (lv_at hl 1 rfl) ?_
  obtain ⟨o_2, hc_1, hrun⟩ := mox_s rfl hrun
  have hP : va_P D zCl ([] ++ ([] ++ (((cH k ah aw adr aim ard asc ath awl alo atr sh) ++ (cW k aw sw)) ++ w0))) _ := hP
  have hD : va_D A ([] ++ ([] ++ (((cH k ah aw adr aim ard asc ath awl alo atr sh) ++ (cW k aw sw)) ++ w0))) := hD
  refine cXS [] [] (((cH k ah aw adr aim ard asc ath awl alo atr sh) ++ (cW k aw sw)) ++ w0) (As := [.int p1]) ⟨hx, hb, hml, hown, hts⟩ hOK hz hS hA hP hD (mtX1_roomAt l D Z hOK hlt hTh _ o_2 hc_1) (kX1_roomAt hts q1603 rfl rfl ⟨Nat.le_of_ble_eq_true rfl, Nat.le_of_ble_eq_true rfl⟩) rfl hl.1 rfl (lv_room (Nat.le_of_ble_eq_true rfl)) ⟨Nat.le_of_ble_eq_true rfl, Nat.le_of_ble_eq_true rfl⟩ dX1_hole_1 (fun E_ w_ ce_ q9_ H locs hq hP hD hS hce hcv hcl => ?_) (fun r_ w_ H locs hq hP hD hS => ?_)
  · obtain ⟨rfl, rfl⟩ := hq
    have hrun := moxl hrun
    cases hrun
    have hP : va_P D zCl (((cH k ah aw adr aim ard asc ath awl alo atr sh) ++ (cW k aw sw)) ++ w0) _ := hP
    have hD : va_D A (((cH k ah aw adr aim ard asc ath awl alo atr sh) ++ (cW k aw sw)) ++ w0) := hD
    exact zout hnoh hlocks hce hcv hcl hP hD hS ⟨_, rfl, rfl⟩ (Nat.le_of_ble_eq_true rfl) (Nat.le_of_ble_eq_true rfl)
  obtain ⟨rfl, rfl, rfl⟩ := hq
  have hrun := moxr hrun
  have hP : va_P D zCl (((cH k ah aw adr aim ard asc ath awl alo atr sh) ++ (cW k aw sw)) ++ w0) _ := hP
  have hD : va_D A (((cH k ah aw adr aim ard asc ath awl alo atr sh) ++ (cW k aw sw)) ++ w0) := hD
  refine lv_iload_n hx hb dX1_hole_4 rfl (lv_at hl 2 rfl) ?_
  obtain ⟨o_5, hc_4, hrun⟩ := mox_s rfl hrun
  have hP : va_P D zCl ([] ++ ([] ++ (((cH k ah aw adr aim ard asc ath awl alo atr sh) ++ (cW k aw sw)) ++ w0))) _ := hP
  have hD : va_D A ([] ++ ([] ++ (((cH k ah aw adr aim ard asc ath awl alo atr sh) ++ (cW k aw sw)) ++ w0))) := hD
  refine cXS [] [] (((cH k ah aw adr aim ard asc ath awl alo atr sh) ++ (cW k aw sw)) ++ w0) (As := [.int p2]) ⟨hx, hb, hml, hown, hts⟩ hOK hz hS hA hP hD (mtX1_roomAt l D Z hOK hlt hTh _ o_5 hc_4) (kX1_roomAt hts q1603 rfl rfl ⟨Nat.le_of_ble_eq_true rfl, Nat.le_of_ble_eq_true rfl⟩) rfl hl.1 rfl (lv_room (Nat.le_of_ble_eq_true rfl)) ⟨Nat.le_of_ble_eq_true rfl, Nat.le_of_ble_eq_true rfl⟩ dX1_hole_5 (fun E_ w_ ce_ q9_ H locs hq hP hD hS hce hcv hcl => ?_) (fun r_ w_ H locs hq hP hD hS => ?_)
  · obtain ⟨rfl, rfl⟩ := hq
    have hrun := moxl hrun
    cases hrun
    have hP : va_P D zCl (((cH k ah aw adr aim ard asc ath awl alo atr sh) ++ (cW k aw sw)) ++ w0) _ := hP
    have hD : va_D A (((cH k ah aw adr aim ard asc ath awl alo atr sh) ++ (cW k aw sw)) ++ w0) := hD
    exact zout hnoh hlocks hce hcv hcl hP hD hS ⟨_, rfl, rfl⟩ (Nat.le_of_ble_eq_true rfl) (Nat.le_of_ble_eq_true rfl)
  obtain ⟨rfl, rfl, rfl⟩ := hq
  have hrun := moxr hrun
  have hP : va_P D zCl (((cH k ah aw adr aim ard asc ath awl alo atr sh) ++ (cW k aw sw)) ++ w0) _ := hP
  have hD : va_D A (((cH k ah aw adr aim ard asc ath awl alo atr sh) ++ (cW k aw sw)) ++ w0) := hD
  refine lv_iload_n hx hb dX1_hole_8 rfl (lv_at hl 1 rfl) ?_
  refine lv_iload_n hx hb dX1_hole_9 rfl (lv_at hl 2 rfl) ?_
  obtain ⟨K_10, hK_10, hrun⟩ := mjn_s hrun
  have hj_8 : ∀ (y_9 : Bool), ∀ (H : Heap) (locs : List Loc), va_P D zCl (((cH k ah aw adr aim ard asc ath awl alo atr sh) ++ (cW k aw sw)) ++ w0) H → va_D A (((cH k ah aw adr aim ard asc ath awl alo atr sh) ++ (cW k aw sw)) ++ w0) → va_S A s.heap H locs → ∀ ls : Array Slot, lv_has ls 6 [(0, .ref (ah 0)), (1, .int p1), (2, .int p2), (3, .int (bz p3))] → K_10 y_9 = some o → W p l e rX1_hole s m args below meth c H locs 2 12 (vx_MQ below (QWr (fun r' w' => ∃ T_ : va_W, (∃ u0 ou : Wd, fX2_likens u0 sw = some ou ∧ wlP k e0 (awl 0) (puW us ou) T_) ∧ ∃ (r : Bool) (ow : Wd), o = .inr (r, ow) ∧ r' = (some (.int (bz r))) ∧ w' = (((cH k ah aw adr aim ard asc ath awl alo atr sh) ++ (cW k aw ow)) ++ T_)) D zCl A) (QXr (fun E' w' => ∃ (ow : Wd), o = .inl (E', ow) ∧ w' = (((cH k ah aw adr aim ard asc ath awl alo atr sh) ++ (cW k aw ow)) ++ w0)) D zCl A) args s 13 344 A) (F0 m 18 ls [.int (bz y_9)]) := by
    intro y_9 H locs hP hD hS ls hl hrun
    rw [hK_10] at hrun
    obtain ⟨o_12, hc_11, hrun⟩ := mox_s rfl hrun
    have hP : va_P D zCl ([] ++ ([] ++ (((cH k ah aw adr aim ard asc ath awl alo atr sh) ++ (cW k aw sw)) ++ w0))) _ := hP
    have hD : va_D A ([] ++ ([] ++ (((cH k ah aw adr aim ard asc ath awl alo atr sh) ++ (cW k aw sw)) ++ w0))) := hD
    refine cXS [] [] (((cH k ah aw adr aim ard asc ath awl alo atr sh) ++ (cW k aw sw)) ++ w0) (As := [.int (bz y_9)]) ⟨hx, hb, hml, hown, hts⟩ hOK hz hS hA hP hD (mtX1_demand l D Z hOK hlt hTh _ o_12 hc_11) (kX1_demand hts q1627 rfl rfl ⟨Nat.le_of_ble_eq_true rfl, Nat.le_of_ble_eq_true rfl⟩) rfl hl.1 rfl (lv_room (Nat.le_of_ble_eq_true rfl)) ⟨Nat.le_of_ble_eq_true rfl, Nat.le_of_ble_eq_true rfl⟩ dX1_hole_18 (fun E_ w_ ce_ q9_ H locs hq hP hD hS hce hcv hcl => ?_) (fun r_ w_ H locs hq hP hD hS => ?_)
    · obtain ⟨rfl, rfl⟩ := hq
      have hrun := moxl hrun
      cases hrun
      have hP : va_P D zCl (((cH k ah aw adr aim ard asc ath awl alo atr sh) ++ (cW k aw sw)) ++ w0) _ := hP
      have hD : va_D A (((cH k ah aw adr aim ard asc ath awl alo atr sh) ++ (cW k aw sw)) ++ w0) := hD
      exact zout hnoh hlocks hce hcv hcl hP hD hS ⟨_, rfl, rfl⟩ (Nat.le_of_ble_eq_true rfl) (Nat.le_of_ble_eq_true rfl)
    obtain ⟨rfl, rfl, rfl⟩ := hq
    have hrun := moxr hrun
    have hP : va_P D zCl (((cH k ah aw adr aim ard asc ath awl alo atr sh) ++ (cW k aw sw)) ++ w0) _ := hP
    have hD : va_D A (((cH k ah aw adr aim ard asc ath awl alo atr sh) ++ (cW k aw sw)) ++ w0) := hD
    refine lv_aload_n hx hb dX1_hole_21 rfl (lv_at hl 0 rfl) ?_
    have hP : va_P D zCl ([] ++ (((cH k ah aw adr aim ard asc ath awl alo atr sh) ++ (cW k aw sw)) ++ w0)) _ := hP
    have hD : va_D A ([] ++ (((cH k ah aw adr aim ard asc ath awl alo atr sh) ++ (cW k aw sw)) ++ w0)) := hD
    refine cWVP [] (((cH k ah aw adr aim ard asc ath awl alo atr sh) ++ (cW k aw sw)) ++ w0) (As := []) (ci := 1) ⟨hx, hb, hml, hown, hts⟩ hOK hz hS hA hP hD (mtX1_remembers l D k ah aw adr aim ard asc ath awl alo atr Z hOK hLs _ _ us w0 hw) (kX1_remembers hts q1637 rfl rfl ⟨Nat.le_of_ble_eq_true rfl, Nat.le_of_ble_eq_true rfl⟩) 0 rfl rfl rfl hl.1 rfl (lv_room (Nat.le_of_ble_eq_true rfl)) ⟨Nat.le_of_ble_eq_true rfl, Nat.le_of_ble_eq_true rfl⟩ dX1_hole_22 (fun r_ w_ H locs hq hP hD hS => ?_)
    obtain ⟨T_14, ub_15, ul_16, hli_17, hwl_18, rfl, rfl⟩ := hq
    have hP : va_P D zCl (((cH k ah aw adr aim ard asc ath awl alo atr sh) ++ (cW k aw sw)) ++ T_14) _ := hP
    have hD : va_D A (((cH k ah aw adr aim ard asc ath awl alo atr sh) ++ (cW k aw sw)) ++ T_14) := hD
    refine lv_aload_n hx hb dX1_hole_25 rfl (lv_at hl 0 rfl) ?_
    refine va_get (ci := 1) (v := .ref (aw 0)) (C := RX1) (T := TX1) (N := 10) hx hb hts in_X1 hown hK hP 0 rfl rfl 0 (by decide) (hts _ q370) (fun _ h9 => h9) rfl dX1_hole_26 ?_
    refine va_getN (ci := 2) (v := .ref (aw 7)) (C := RX2) (T := TX2) (N := 21) hx hb hts in_X2 hown hK hP 1 rfl rfl 18 (by decide) (va_Nw.use rfl (hN _ (zN_of q204 rfl))) (fun _ h9 => h9) rfl dX1_hole_29 ?_
    refine lv_iload_n hx hb dX1_hole_32 rfl (lv_at hl 1 rfl) ?_
    obtain ⟨hb_19, hrun⟩ := mck_s rfl hrun
    refine va_iald hx hb hK hP 8 0 rfl rfl hb_19 dX1_hole_33 ?_
    refine lv_iload_n hx hb dX1_hole_34 rfl (lv_at hl 2 rfl) ?_
    obtain ⟨r_21, hc_20, hrun⟩ := mob_s rfl hrun
    refine cRS (ws := []) (As := [.int ((wd_holes sw) (Int32.toNatClampNeg p1)), .int p2]) ⟨hx, hb, hml, hown, hts⟩ hOK hz hS zP0 (mtX1_has l D Z hOK _ _ _ hc_20) (kX1_has hts q586 rfl rfl ⟨Nat.le_of_ble_eq_true rfl, Nat.le_of_ble_eq_true rfl⟩) rfl hl.1 rfl (lv_room (Nat.le_of_ble_eq_true rfl)) ⟨Nat.le_of_ble_eq_true rfl, Nat.le_of_ble_eq_true rfl⟩ dX1_hole_35 ?_
    refine lv_istore (lv' := [(4, .int (bz r_21)), (0, .ref (ah 0)), (1, .int p1), (2, .int p2), (3, .int (bz p3))]) hx hb dX1_hole_38 hl (by decide) rfl (fun ls hl => ?_)
    refine lv_iconst (v := (1 : Int32)) hx hb dX1_hole_40 (by decide) ?_
    refine lv_iload_n hx hb dX1_hole_41 rfl (lv_at hl 3 rfl) ?_
    refine lv_ishl hx hb dX1_hole_42 ?_
    refine lv_istore (lv' := [(5, .int ((1 : Int32) <<< (p2 &&& (31 : Int32)))), (4, .int (bz r_21)), (0, .ref (ah 0)), (1, .int p1), (2, .int p2), (3, .int (bz p3))]) hx hb dX1_hole_43 hl (by decide) rfl (fun ls hl => ?_)
    refine lv_aload_n hx hb dX1_hole_45 rfl (lv_at hl 2 rfl) ?_
    refine va_get (ci := 1) (v := .ref (aw 0)) (C := RX1) (T := TX1) (N := 10) hx hb hts in_X1 hown hK hP 0 rfl rfl 0 (by decide) (hts _ q370) (fun _ h9 => h9) rfl dX1_hole_46 ?_
    refine va_getN (ci := 2) (v := .ref (aw 7)) (C := RX2) (T := TX2) (N := 21) hx hb hts in_X2 hown hK hP 1 rfl rfl 18 (by decide) (va_Nw.use rfl (hN _ (zN_of q204 rfl))) (fun _ h9 => h9) rfl dX1_hole_49 ?_
    refine lv_iload_n hx hb dX1_hole_52 rfl (lv_at hl 3 rfl) ?_
    refine lv_iload_n hx hb dX1_hole_53 rfl (lv_at hl 5 rfl) ?_
    obtain ⟨K_25, hK_25, hrun⟩ := mjn_s hrun
    have hj_23 : ∀ (y_24 : Int32), ∀ (H : Heap) (locs : List Loc), va_P D zCl (((cH k ah aw adr aim ard asc ath awl alo atr sh) ++ (cW k aw sw)) ++ T_14) H → va_D A (((cH k ah aw adr aim ard asc ath awl alo atr sh) ++ (cW k aw sw)) ++ T_14) → va_S A s.heap H locs → ∀ ls : Array Slot, lv_has ls 6 [(3, .int (bz p3)), (4, .int (bz r_21))] → K_25 y_24 = some o → W p l e rX1_hole s m args below meth c H locs 13 344 (vx_MQ below (QWr (fun r' w' => ∃ T_ : va_W, (∃ u0 ou : Wd, fX2_likens u0 sw = some ou ∧ wlP k e0 (awl 0) (puW us ou) T_) ∧ ∃ (r : Bool) (ow : Wd), o = .inr (r, ow) ∧ r' = (some (.int (bz r))) ∧ w' = (((cH k ah aw adr aim ard asc ath awl alo atr sh) ++ (cW k aw ow)) ++ T_)) D zCl A) (QXr (fun E' w' => ∃ (ow : Wd), o = .inl (E', ow) ∧ w' = (((cH k ah aw adr aim ard asc ath awl alo atr sh) ++ (cW k aw ow)) ++ w0)) D zCl A) args s 13 344 A) (F0 m 86 ls [.int y_24, .int p1, .ref (aw 7)]) := by
      intro y_24 H locs hP hD hS ls hl hrun
      rw [hK_25] at hrun
      obtain ⟨hb_26, hrun⟩ := mck_s rfl hrun
      refine va_iast hx hb hK hP hD hS 8 0 rfl rfl hb_26 dX1_hole_86 (fun H locs hP hD hS => ?_)
      have hP : va_P D zCl (((cH k ah aw adr aim ard asc ath awl alo atr sh) ++ (cW k aw (wd_s_holes sw (upd (wd_holes sw) (Int32.toNatClampNeg p1) y_24)))) ++ T_14) _ := hP
      have hD : va_D A (((cH k ah aw adr aim ard asc ath awl alo atr sh) ++ (cW k aw (wd_s_holes sw (upd (wd_holes sw) (Int32.toNatClampNeg p1) y_24)))) ++ T_14) := hD
      obtain ⟨sw_27, esw_27⟩ : ∃ z : Wd, z = (wd_s_holes sw (upd (wd_holes sw) (Int32.toNatClampNeg p1) y_24)) := ⟨_, rfl⟩
      rw [← esw_27] at hP hD
      have hrun := mlt_s hrun sw_27 esw_27
      refine lv_iload hx hb dX1_hole_87 (lv_at hl 1 rfl) ?_
      refine lv_iload_n hx hb dX1_hole_89 rfl (lv_at hl 0 rfl) ?_
      refine lv_icmp_eq (tgt := 97) hx hb dX1_hole_90 (by decide) (fun c_28 => ?_) (fun c_28 => ?_)
      · have hrun := mif_p c_28 hrun
        refine lv_iconst (v := (0 : Int32)) hx hb dX1_hole_97 (by decide) ?_
        cases hrun
        refine W.widen (k := 13) (n := 344) (Nat.le_of_ble_eq_true rfl) (Nat.le_of_ble_eq_true rfl) ?_
        exact vx_ret (retW_z (v := false) hx hb hr hlocks hP hD hS ⟨T_14, ⟨ub_15, ul_16, hli_17, hwl_18⟩, _, _, rfl, rfl, rfl⟩ dX1_hole_98)
      have hrun := mif_n c_28 hrun
      refine lv_iconst (v := (1 : Int32)) hx hb dX1_hole_93 (by decide) ?_
      refine lv_goto (tgt := 98) hx hb dX1_hole_94 (by decide) ?_
      cases hrun
      refine W.widen (k := 13) (n := 344) (Nat.le_of_ble_eq_true rfl) (Nat.le_of_ble_eq_true rfl) ?_
      exact vx_ret (retW_z (v := true) hx hb hr hlocks hP hD hS ⟨T_14, ⟨ub_15, ul_16, hli_17, hwl_18⟩, _, _, rfl, rfl, rfl⟩ dX1_hole_98)
    refine lv_if_eq (tgt := 72) hx hb dX1_hole_54 (by decide) (fun c_22 => ?_) (fun c_22 => ?_)
    · have hrun := mif_n (bz_z c_22) hrun
      refine lv_aload_n hx hb dX1_hole_72 rfl (lv_at hl 2 rfl) ?_
      refine va_get (ci := 1) (v := .ref (aw 0)) (C := RX1) (T := TX1) (N := 10) hx hb hts in_X1 hown hK hP 0 rfl rfl 0 (by decide) (hts _ q370) (fun _ h9 => h9) rfl dX1_hole_73 ?_
      refine va_getN (ci := 2) (v := .ref (aw 7)) (C := RX2) (T := TX2) (N := 21) hx hb hts in_X2 hown hK hP 1 rfl rfl 18 (by decide) (va_Nw.use rfl (hN _ (zN_of q204 rfl))) (fun _ h9 => h9) rfl dX1_hole_76 ?_
      refine lv_iload_n hx hb dX1_hole_79 rfl (lv_at hl 3 rfl) ?_
      obtain ⟨hb_29, hrun⟩ := mck_s rfl hrun
      refine va_iald hx hb hK hP 8 0 rfl rfl hb_29 dX1_hole_80 ?_
      refine lv_iload hx hb dX1_hole_81 (lv_at hl 0 rfl) ?_
      refine lv_iconst (v := (-1 : Int32)) hx hb dX1_hole_83 (by decide) ?_
      refine lv_ixor hx hb dX1_hole_84 ?_
      refine lv_iand hx hb dX1_hole_85 ?_
      exact hj_23 (((wd_holes sw) (Int32.toNatClampNeg p1)) &&& (((1 : Int32) <<< (p2 &&& (31 : Int32))) ^^^ (-1 : Int32))) _ _ hP hD hS ls (lv_sub hl [5, 1] rfl) hrun
    have hrun := mif_p (bz_nz c_22) hrun
    refine lv_aload_n hx hb dX1_hole_57 rfl (lv_at hl 2 rfl) ?_
    refine va_get (ci := 1) (v := .ref (aw 0)) (C := RX1) (T := TX1) (N := 10) hx hb hts in_X1 hown hK hP 0 rfl rfl 0 (by decide) (hts _ q370) (fun _ h9 => h9) rfl dX1_hole_58 ?_
    refine va_getN (ci := 2) (v := .ref (aw 7)) (C := RX2) (T := TX2) (N := 21) hx hb hts in_X2 hown hK hP 1 rfl rfl 18 (by decide) (va_Nw.use rfl (hN _ (zN_of q204 rfl))) (fun _ h9 => h9) rfl dX1_hole_61 ?_
    refine lv_iload_n hx hb dX1_hole_64 rfl (lv_at hl 3 rfl) ?_
    obtain ⟨hb_30, hrun⟩ := mck_s rfl hrun
    refine va_iald hx hb hK hP 8 0 rfl rfl hb_30 dX1_hole_65 ?_
    refine lv_iload hx hb dX1_hole_66 (lv_at hl 0 rfl) ?_
    refine lv_ior hx hb dX1_hole_68 ?_
    refine lv_goto (tgt := 86) hx hb dX1_hole_69 (by decide) ?_
    exact hj_23 (((wd_holes sw) (Int32.toNatClampNeg p1)) ||| ((1 : Int32) <<< (p2 &&& (31 : Int32)))) _ _ hP hD hS ls (lv_sub hl [5, 1] rfl) hrun
  refine lv_icmp_eq (tgt := 17) hx hb dX1_hole_10 (by decide) (fun c_7 => ?_) (fun c_7 => ?_)
  · have hrun := mif_p c_7 hrun
    refine lv_iconst (v := (0 : Int32)) hx hb dX1_hole_17 (by decide) ?_
    exact hj_8 false _ _ hP hD hS ls (lv_sub hl [0, 1, 2, 3] rfl) hrun
  have hrun := mif_n c_7 hrun
  refine lv_iconst (v := (1 : Int32)) hx hb dX1_hole_13 (by decide) ?_
  refine lv_goto (tgt := 18) hx hb dX1_hole_14 (by decide) ?_
  exact hj_8 true _ _ hP hD hS ls (lv_sub hl [0, 1, 2, 3] rfl) hrun
def rX1_bath : Room := { frames := 9, cells := 11, slots := 332, locals := 321 }
noncomputable def fX1_bath (sh : Kp) (sw : Wd) (p1 : Int32) : Option ((String × Wd) ⊕ (Int32 × Wd)) :=
  mox (fX1_roomAt p1) (fun E_3 => some (.inl (E_3, sw))) fun _ =>
  mlt (wd_s_bath sw p1) fun sw_9 =>
  some (.inr ((wd_bath sw), sw_9))
theorem kX1_bath {R : Room} {s : State} {args : Array Value} {own : String} {idx mc ms : Nat} {rm : Room} (hts : ∀ w ∈ lw_all, w.before args s = true) (hl : Cond.methodLink own idx yX1_bath ∈ lw_all) (hrc : rm.cells = mc) (hrs : rm.slots = ms) (hR : rm.frames + 1 ≤ R.frames ∧ 8 + (3 + 11) + rm.locals ≤ R.locals) : CallW R s args own RX1 idx yX1_bath cX1_bath 3 (some .int) (ws_ yX1_bath cX1_bath 3 (some .int)) rm mc ms 1 :=
  cwV 1 hts (lw_V hl q1666 q1667 q107 q1668) rfl hrc hrs (by decide +kernel) hR
set_option maxHeartbeats 4000000 in
set_option maxRecDepth 100000 in
theorem mtX1_bath (l : Launch) (D : va_G) (k : Nat → ClassId) (ah : Nat → Nat) (aw : Nat → Nat) (adr : Nat → Nat) (aim : Nat → Nat) (ard : Nat → Nat) (asc : Nat → Nat) (ath : Nat → Nat) (awl : Nat → Nat) (alo : Nat → Nat) (atr : Nat → Nat) (Z : zZ) (hOK : zOK D zCl (zTys k) Z) (hlt : l.stackTraces = false) (hTh : zTh Z) {e0 mi : Nat} (hLs : zLs Z e0 mi) (us : List Wd) (w0 : va_W) (hw : wlP k e0 (awl 0) us w0) (sh : Kp) (sw : Wd) (p1 : Int32) (o : (String × Wd) ⊕ (Int32 × Wd)) (hrun : fX1_bath sh sw p1 = some o) :
    CtX l yX1_bath cX1_bath 3 (some .int) rX1_bath Z D zCl (((cH k ah aw adr aim ard asc ath awl alo atr sh) ++ (cW k aw sw)) ++ w0) [.ref (ah 0), .int p1] (fun r' w' => ∃ T_ : va_W, (∃ u0 ou : Wd, fX2_likens u0 sw = some ou ∧ wlP k e0 (awl 0) (puW us ou) T_) ∧ ∃ (r : Int32) (ow : Wd), o = .inr (r, ow) ∧ r' = (some (.int r)) ∧ w' = (((cH k ah aw adr aim ard asc ath awl alo atr sh) ++ (cW k aw ow)) ++ T_)) (fun E' w' => ∃ (ow : Wd), o = .inl (E', ow) ∧ w' = (((cH k ah aw adr aim ard asc ath awl alo atr sh) ++ (cW k aw ow)) ++ w0)) 11 332 := by
  refine CtX.of (by decide) (Nat.le_of_ble_eq_true rfl) ?_
  intro p e s m args below meth c A hE hnoh hA hP hD hS hz ls hl
  obtain ⟨hx, hb, hr, hml, hown, hts, hlocks, hname⟩ := hE
  have hown : s.vm.findClass RX1 = some m.cls := hown
  have hK := hOK.1 _ _ _ hz
  have hN := hOK.2.1 _ _ _ hz
  have hl : lv_has ls 3 [(0, .ref (ah 0)), (1, .int p1)] := hl
  unfold fX1_bath at hrun
  refine lv_iload_n hx hb dX1_bath_0 rfl (lv_at hl 1 rfl) ?_
  obtain ⟨o_2, hc_1, hrun⟩ := mox_s rfl hrun
  have hP : va_P D zCl ([] ++ ([] ++ (((cH k ah aw adr aim ard asc ath awl alo atr sh) ++ (cW k aw sw)) ++ w0))) _ := hP
  have hD : va_D A ([] ++ ([] ++ (((cH k ah aw adr aim ard asc ath awl alo atr sh) ++ (cW k aw sw)) ++ w0))) := hD
  refine cXS [] [] (((cH k ah aw adr aim ard asc ath awl alo atr sh) ++ (cW k aw sw)) ++ w0) (As := [.int p1]) ⟨hx, hb, hml, hown, hts⟩ hOK hz hS hA hP hD (mtX1_roomAt l D Z hOK hlt hTh _ o_2 hc_1) (kX1_roomAt hts q1603 rfl rfl ⟨Nat.le_of_ble_eq_true rfl, Nat.le_of_ble_eq_true rfl⟩) rfl hl.1 rfl (lv_room (Nat.le_of_ble_eq_true rfl)) ⟨Nat.le_of_ble_eq_true rfl, Nat.le_of_ble_eq_true rfl⟩ dX1_bath_1 (fun E_ w_ ce_ q9_ H locs hq hP hD hS hce hcv hcl => ?_) (fun r_ w_ H locs hq hP hD hS => ?_)
  · obtain ⟨rfl, rfl⟩ := hq
    have hrun := moxl hrun
    cases hrun
    have hP : va_P D zCl (((cH k ah aw adr aim ard asc ath awl alo atr sh) ++ (cW k aw sw)) ++ w0) _ := hP
    have hD : va_D A (((cH k ah aw adr aim ard asc ath awl alo atr sh) ++ (cW k aw sw)) ++ w0) := hD
    exact zout hnoh hlocks hce hcv hcl hP hD hS ⟨_, rfl, rfl⟩ (Nat.le_of_ble_eq_true rfl) (Nat.le_of_ble_eq_true rfl)
  obtain ⟨rfl, rfl, rfl⟩ := hq
  have hrun := moxr hrun
  have hP : va_P D zCl (((cH k ah aw adr aim ard asc ath awl alo atr sh) ++ (cW k aw sw)) ++ w0) _ := hP
  have hD : va_D A (((cH k ah aw adr aim ard asc ath awl alo atr sh) ++ (cW k aw sw)) ++ w0) := hD
  refine lv_aload_n hx hb dX1_bath_4 rfl (lv_at hl 0 rfl) ?_
  have hP : va_P D zCl ([] ++ (((cH k ah aw adr aim ard asc ath awl alo atr sh) ++ (cW k aw sw)) ++ w0)) _ := hP
  have hD : va_D A ([] ++ (((cH k ah aw adr aim ard asc ath awl alo atr sh) ++ (cW k aw sw)) ++ w0)) := hD
  refine cWVP [] (((cH k ah aw adr aim ard asc ath awl alo atr sh) ++ (cW k aw sw)) ++ w0) (As := []) (ci := 1) ⟨hx, hb, hml, hown, hts⟩ hOK hz hS hA hP hD (mtX1_remembers l D k ah aw adr aim ard asc ath awl alo atr Z hOK hLs _ _ us w0 hw) (kX1_remembers hts q1637 rfl rfl ⟨Nat.le_of_ble_eq_true rfl, Nat.le_of_ble_eq_true rfl⟩) 0 rfl rfl rfl hl.1 rfl (lv_room (Nat.le_of_ble_eq_true rfl)) ⟨Nat.le_of_ble_eq_true rfl, Nat.le_of_ble_eq_true rfl⟩ dX1_bath_5 (fun r_ w_ H locs hq hP hD hS => ?_)
  obtain ⟨T_4, ub_5, ul_6, hli_7, hwl_8, rfl, rfl⟩ := hq
  have hP : va_P D zCl (((cH k ah aw adr aim ard asc ath awl alo atr sh) ++ (cW k aw sw)) ++ T_4) _ := hP
  have hD : va_D A (((cH k ah aw adr aim ard asc ath awl alo atr sh) ++ (cW k aw sw)) ++ T_4) := hD
  refine lv_aload_n hx hb dX1_bath_8 rfl (lv_at hl 0 rfl) ?_
  refine va_get (ci := 1) (v := .ref (aw 0)) (C := RX1) (T := TX1) (N := 10) hx hb hts in_X1 hown hK hP 0 rfl rfl 0 (by decide) (hts _ q370) (fun _ h9 => h9) rfl dX1_bath_9 ?_
  refine va_getN (ci := 2) (v := .int (wd_bath sw)) (C := RX2) (T := TX2) (N := 21) hx hb hts in_X2 hown hK hP 1 rfl rfl 3 (by decide) (va_Nw.use rfl (hN _ (zN_of q171 rfl))) (fun _ h9 => h9) rfl dX1_bath_12 ?_
  refine lv_istore_n (lv' := [(2, .int (wd_bath sw)), (0, .ref (ah 0)), (1, .int p1)]) hx hb dX1_bath_15 rfl hl (by decide) rfl (fun ls hl => ?_)
  refine lv_aload_n hx hb dX1_bath_16 rfl (lv_at hl 1 rfl) ?_
  refine va_get (ci := 1) (v := .ref (aw 0)) (C := RX1) (T := TX1) (N := 10) hx hb hts in_X1 hown hK hP 0 rfl rfl 0 (by decide) (hts _ q370) (fun _ h9 => h9) rfl dX1_bath_17 ?_
  refine lv_iload_n hx hb dX1_bath_20 rfl (lv_at hl 2 rfl) ?_
  refine va_putN (ci := 2) (v := .int p1) (ty := tyX2 3) (C := RX2) (T := TX2) (N := 21) hx hb hts in_X2 tyX2 tyX2_ok nmX2 hown hK hP hD hS 1 rfl rfl 3 (by decide) (va_Nw.use rfl (hN _ (zN_of q171 rfl))) (fun _ h9 => h9) rfl (tyX2_ok 3 (by decide)) rfl rfl (Nat.le_of_ble_eq_true rfl) dX1_bath_21 (fun H locs hP hD hS => ?_)
  have hP : va_P D zCl (((cH k ah aw adr aim ard asc ath awl alo atr sh) ++ (cW k aw (wd_s_bath sw p1))) ++ T_4) _ := hP
  have hD : va_D A (((cH k ah aw adr aim ard asc ath awl alo atr sh) ++ (cW k aw (wd_s_bath sw p1))) ++ T_4) := hD
  obtain ⟨sw_9, esw_9⟩ : ∃ z : Wd, z = (wd_s_bath sw p1) := ⟨_, rfl⟩
  rw [← esw_9] at hP hD
  have hrun := mlt_s hrun sw_9 esw_9
  refine lv_iload_n hx hb dX1_bath_24 rfl (lv_at hl 0 rfl) ?_
  cases hrun
  refine W.widen (k := 11) (n := 332) (Nat.le_of_ble_eq_true rfl) (Nat.le_of_ble_eq_true rfl) ?_
  exact vx_ret (retW_i hx hb hr hlocks hP hD hS ⟨T_4, ⟨ub_5, ul_6, hli_7, hwl_8⟩, _, _, rfl, rfl, rfl⟩ dX1_bath_25)
def rX1_keep : Room := { frames := 9, cells := 11, slots := 332, locals := 321 }
noncomputable def fX1_keep (sh : Kp) (sw : Wd) (p1 : Int32) : Option ((String × Wd) ⊕ (Int32 × Wd)) :=
  mox (fX1_calendarAt p1) (fun E_3 => some (.inl (E_3, sw))) fun _ =>
  mlt (wd_s_kept sw p1) fun sw_9 =>
  some (.inr ((wd_kept sw), sw_9))
theorem kX1_keep {R : Room} {s : State} {args : Array Value} {own : String} {idx mc ms : Nat} {rm : Room} (hts : ∀ w ∈ lw_all, w.before args s = true) (hl : Cond.methodLink own idx yX1_keep ∈ lw_all) (hrc : rm.cells = mc) (hrs : rm.slots = ms) (hR : rm.frames + 1 ≤ R.frames ∧ 8 + (3 + 11) + rm.locals ≤ R.locals) : CallW R s args own RX1 idx yX1_keep cX1_keep 3 (some .int) (ws_ yX1_keep cX1_keep 3 (some .int)) rm mc ms 1 :=
  cwV 1 hts (lw_V hl q1673 q1674 q107 q1675) rfl hrc hrs (by decide +kernel) hR
set_option maxHeartbeats 4000000 in
set_option maxRecDepth 100000 in
theorem mtX1_keep (l : Launch) (D : va_G) (k : Nat → ClassId) (ah : Nat → Nat) (aw : Nat → Nat) (adr : Nat → Nat) (aim : Nat → Nat) (ard : Nat → Nat) (asc : Nat → Nat) (ath : Nat → Nat) (awl : Nat → Nat) (alo : Nat → Nat) (atr : Nat → Nat) (Z : zZ) (hOK : zOK D zCl (zTys k) Z) (hlt : l.stackTraces = false) (hTh : zTh Z) {e0 mi : Nat} (hLs : zLs Z e0 mi) (us : List Wd) (w0 : va_W) (hw : wlP k e0 (awl 0) us w0) (sh : Kp) (sw : Wd) (p1 : Int32) (o : (String × Wd) ⊕ (Int32 × Wd)) (hrun : fX1_keep sh sw p1 = some o) :
    CtX l yX1_keep cX1_keep 3 (some .int) rX1_keep Z D zCl (((cH k ah aw adr aim ard asc ath awl alo atr sh) ++ (cW k aw sw)) ++ w0) [.ref (ah 0), .int p1] (fun r' w' => ∃ T_ : va_W, (∃ u0 ou : Wd, fX2_likens u0 sw = some ou ∧ wlP k e0 (awl 0) (puW us ou) T_) ∧ ∃ (r : Int32) (ow : Wd), o = .inr (r, ow) ∧ r' = (some (.int r)) ∧ w' = (((cH k ah aw adr aim ard asc ath awl alo atr sh) ++ (cW k aw ow)) ++ T_)) (fun E' w' => ∃ (ow : Wd), o = .inl (E', ow) ∧ w' = (((cH k ah aw adr aim ard asc ath awl alo atr sh) ++ (cW k aw ow)) ++ w0)) 11 332 := by
  refine CtX.of (by decide) (Nat.le_of_ble_eq_true rfl) ?_
  intro p e s m args below meth c A hE hnoh hA hP hD hS hz ls hl
  obtain ⟨hx, hb, hr, hml, hown, hts, hlocks, hname⟩ := hE
  have hown : s.vm.findClass RX1 = some m.cls := hown
  have hK := hOK.1 _ _ _ hz
  have hN := hOK.2.1 _ _ _ hz
  have hl : lv_has ls 3 [(0, .ref (ah 0)), (1, .int p1)] := hl
  unfold fX1_keep at hrun
  refine lv_iload_n hx hb dX1_keep_0 rfl (lv_at hl 1 rfl) ?_
  obtain ⟨o_2, hc_1, hrun⟩ := mox_s rfl hrun
  have hP : va_P D zCl ([] ++ ([] ++ (((cH k ah aw adr aim ard asc ath awl alo atr sh) ++ (cW k aw sw)) ++ w0))) _ := hP
  have hD : va_D A ([] ++ ([] ++ (((cH k ah aw adr aim ard asc ath awl alo atr sh) ++ (cW k aw sw)) ++ w0))) := hD
  refine cXS [] [] (((cH k ah aw adr aim ard asc ath awl alo atr sh) ++ (cW k aw sw)) ++ w0) (As := [.int p1]) ⟨hx, hb, hml, hown, hts⟩ hOK hz hS hA hP hD (mtX1_calendarAt l D Z hOK hlt hTh _ o_2 hc_1) (kX1_calendarAt hts q1613 rfl rfl ⟨Nat.le_of_ble_eq_true rfl, Nat.le_of_ble_eq_true rfl⟩) rfl hl.1 rfl (lv_room (Nat.le_of_ble_eq_true rfl)) ⟨Nat.le_of_ble_eq_true rfl, Nat.le_of_ble_eq_true rfl⟩ dX1_keep_1 (fun E_ w_ ce_ q9_ H locs hq hP hD hS hce hcv hcl => ?_) (fun r_ w_ H locs hq hP hD hS => ?_)
  · obtain ⟨rfl, rfl⟩ := hq
    have hrun := moxl hrun
    cases hrun
    have hP : va_P D zCl (((cH k ah aw adr aim ard asc ath awl alo atr sh) ++ (cW k aw sw)) ++ w0) _ := hP
    have hD : va_D A (((cH k ah aw adr aim ard asc ath awl alo atr sh) ++ (cW k aw sw)) ++ w0) := hD
    exact zout hnoh hlocks hce hcv hcl hP hD hS ⟨_, rfl, rfl⟩ (Nat.le_of_ble_eq_true rfl) (Nat.le_of_ble_eq_true rfl)
  obtain ⟨rfl, rfl, rfl⟩ := hq
  have hrun := moxr hrun
  have hP : va_P D zCl (((cH k ah aw adr aim ard asc ath awl alo atr sh) ++ (cW k aw sw)) ++ w0) _ := hP
  have hD : va_D A (((cH k ah aw adr aim ard asc ath awl alo atr sh) ++ (cW k aw sw)) ++ w0) := hD
  refine lv_aload_n hx hb dX1_keep_4 rfl (lv_at hl 0 rfl) ?_
  have hP : va_P D zCl ([] ++ (((cH k ah aw adr aim ard asc ath awl alo atr sh) ++ (cW k aw sw)) ++ w0)) _ := hP
  have hD : va_D A ([] ++ (((cH k ah aw adr aim ard asc ath awl alo atr sh) ++ (cW k aw sw)) ++ w0)) := hD
  refine cWVP [] (((cH k ah aw adr aim ard asc ath awl alo atr sh) ++ (cW k aw sw)) ++ w0) (As := []) (ci := 1) ⟨hx, hb, hml, hown, hts⟩ hOK hz hS hA hP hD (mtX1_remembers l D k ah aw adr aim ard asc ath awl alo atr Z hOK hLs _ _ us w0 hw) (kX1_remembers hts q1637 rfl rfl ⟨Nat.le_of_ble_eq_true rfl, Nat.le_of_ble_eq_true rfl⟩) 0 rfl rfl rfl hl.1 rfl (lv_room (Nat.le_of_ble_eq_true rfl)) ⟨Nat.le_of_ble_eq_true rfl, Nat.le_of_ble_eq_true rfl⟩ dX1_keep_5 (fun r_ w_ H locs hq hP hD hS => ?_)
  obtain ⟨T_4, ub_5, ul_6, hli_7, hwl_8, rfl, rfl⟩ := hq
  have hP : va_P D zCl (((cH k ah aw adr aim ard asc ath awl alo atr sh) ++ (cW k aw sw)) ++ T_4) _ := hP
  have hD : va_D A (((cH k ah aw adr aim ard asc ath awl alo atr sh) ++ (cW k aw sw)) ++ T_4) := hD
  refine lv_aload_n hx hb dX1_keep_8 rfl (lv_at hl 0 rfl) ?_
  refine va_get (ci := 1) (v := .ref (aw 0)) (C := RX1) (T := TX1) (N := 10) hx hb hts in_X1 hown hK hP 0 rfl rfl 0 (by decide) (hts _ q370) (fun _ h9 => h9) rfl dX1_keep_9 ?_
  refine va_getN (ci := 2) (v := .int (wd_kept sw)) (C := RX2) (T := TX2) (N := 21) hx hb hts in_X2 hown hK hP 1 rfl rfl 4 (by decide) (va_Nw.use rfl (hN _ (zN_of q173 rfl))) (fun _ h9 => h9) rfl dX1_keep_12 ?_
  refine lv_istore_n (lv' := [(2, .int (wd_kept sw)), (0, .ref (ah 0)), (1, .int p1)]) hx hb dX1_keep_15 rfl hl (by decide) rfl (fun ls hl => ?_)
  refine lv_aload_n hx hb dX1_keep_16 rfl (lv_at hl 1 rfl) ?_
  refine va_get (ci := 1) (v := .ref (aw 0)) (C := RX1) (T := TX1) (N := 10) hx hb hts in_X1 hown hK hP 0 rfl rfl 0 (by decide) (hts _ q370) (fun _ h9 => h9) rfl dX1_keep_17 ?_
  refine lv_iload_n hx hb dX1_keep_20 rfl (lv_at hl 2 rfl) ?_
  refine va_putN (ci := 2) (v := .int p1) (ty := tyX2 4) (C := RX2) (T := TX2) (N := 21) hx hb hts in_X2 tyX2 tyX2_ok nmX2 hown hK hP hD hS 1 rfl rfl 4 (by decide) (va_Nw.use rfl (hN _ (zN_of q173 rfl))) (fun _ h9 => h9) rfl (tyX2_ok 4 (by decide)) rfl rfl (Nat.le_of_ble_eq_true rfl) dX1_keep_21 (fun H locs hP hD hS => ?_)
  have hP : va_P D zCl (((cH k ah aw adr aim ard asc ath awl alo atr sh) ++ (cW k aw (wd_s_kept sw p1))) ++ T_4) _ := hP
  have hD : va_D A (((cH k ah aw adr aim ard asc ath awl alo atr sh) ++ (cW k aw (wd_s_kept sw p1))) ++ T_4) := hD
  obtain ⟨sw_9, esw_9⟩ : ∃ z : Wd, z = (wd_s_kept sw p1) := ⟨_, rfl⟩
  rw [← esw_9] at hP hD
  have hrun := mlt_s hrun sw_9 esw_9
  refine lv_iload_n hx hb dX1_keep_24 rfl (lv_at hl 0 rfl) ?_
  cases hrun
  refine W.widen (k := 11) (n := 332) (Nat.le_of_ble_eq_true rfl) (Nat.le_of_ble_eq_true rfl) ?_
  exact vx_ret (retW_i hx hb hr hlocks hP hD hS ⟨T_4, ⟨ub_5, ul_6, hli_7, hwl_8⟩, _, _, rfl, rfl, rfl⟩ dX1_keep_25)
def rX1_masons : Room := { frames := 9, cells := 11, slots := 332, locals := 321 }
noncomputable def fX1_masons (sh : Kp) (sw : Wd) (p1 : Int32) : Option ((String × Wd) ⊕ (Int32 × Wd)) :=
  mob (fX1_in p1 (0 : Int32) (9 : Int32)) fun r_2 =>
  mox (fX1_demand r_2) (fun E_5 => some (.inl (E_5, sw))) fun _ =>
  mlt (wd_s_masons sw p1) fun sw_11 =>
  some (.inr ((wd_masons sw), sw_11))
theorem kX1_masons {R : Room} {s : State} {args : Array Value} {own : String} {idx mc ms : Nat} {rm : Room} (hts : ∀ w ∈ lw_all, w.before args s = true) (hl : Cond.methodLink own idx yX1_masons ∈ lw_all) (hrc : rm.cells = mc) (hrs : rm.slots = ms) (hR : rm.frames + 1 ≤ R.frames ∧ 8 + (3 + 11) + rm.locals ≤ R.locals) : CallW R s args own RX1 idx yX1_masons cX1_masons 3 (some .int) (ws_ yX1_masons cX1_masons 3 (some .int)) rm mc ms 1 :=
  cwV 1 hts (lw_V hl q1680 q1681 q107 q1682) rfl hrc hrs (by decide +kernel) hR
set_option maxHeartbeats 4000000 in
set_option maxRecDepth 100000 in
theorem mtX1_masons (l : Launch) (D : va_G) (k : Nat → ClassId) (ah : Nat → Nat) (aw : Nat → Nat) (adr : Nat → Nat) (aim : Nat → Nat) (ard : Nat → Nat) (asc : Nat → Nat) (ath : Nat → Nat) (awl : Nat → Nat) (alo : Nat → Nat) (atr : Nat → Nat) (Z : zZ) (hOK : zOK D zCl (zTys k) Z) (hlt : l.stackTraces = false) (hTh : zTh Z) {e0 mi : Nat} (hLs : zLs Z e0 mi) (us : List Wd) (w0 : va_W) (hw : wlP k e0 (awl 0) us w0) (sh : Kp) (sw : Wd) (p1 : Int32) (o : (String × Wd) ⊕ (Int32 × Wd)) (hrun : fX1_masons sh sw p1 = some o) :
    CtX l yX1_masons cX1_masons 3 (some .int) rX1_masons Z D zCl (((cH k ah aw adr aim ard asc ath awl alo atr sh) ++ (cW k aw sw)) ++ w0) [.ref (ah 0), .int p1] (fun r' w' => ∃ T_ : va_W, (∃ u0 ou : Wd, fX2_likens u0 sw = some ou ∧ wlP k e0 (awl 0) (puW us ou) T_) ∧ ∃ (r : Int32) (ow : Wd), o = .inr (r, ow) ∧ r' = (some (.int r)) ∧ w' = (((cH k ah aw adr aim ard asc ath awl alo atr sh) ++ (cW k aw ow)) ++ T_)) (fun E' w' => ∃ (ow : Wd), o = .inl (E', ow) ∧ w' = (((cH k ah aw adr aim ard asc ath awl alo atr sh) ++ (cW k aw ow)) ++ w0)) 11 332 := by
  refine CtX.of (by decide) (Nat.le_of_ble_eq_true rfl) ?_
  intro p e s m args below meth c A hE hnoh hA hP hD hS hz ls hl
  obtain ⟨hx, hb, hr, hml, hown, hts, hlocks, hname⟩ := hE
  have hown : s.vm.findClass RX1 = some m.cls := hown
  have hK := hOK.1 _ _ _ hz
  have hN := hOK.2.1 _ _ _ hz
  have hl : lv_has ls 3 [(0, .ref (ah 0)), (1, .int p1)] := hl
  unfold fX1_masons at hrun
  refine lv_iload_n hx hb dX1_masons_0 rfl (lv_at hl 1 rfl) ?_
  refine lv_iconst (v := (0 : Int32)) hx hb dX1_masons_1 (by decide) ?_
  refine lv_bipush (v := (9 : Int32)) hx hb dX1_masons_2 (by decide) ?_
  obtain ⟨r_2, hc_1, hrun⟩ := mob_s rfl hrun
  refine cRS (ws := []) (As := [.int p1, .int (0 : Int32), .int (9 : Int32)]) ⟨hx, hb, hml, hown, hts⟩ hOK hz hS zP0 (mtX1_in l D Z hOK _ _ _ _ hc_1) (kX1_in hts q647 rfl rfl ⟨Nat.le_of_ble_eq_true rfl, Nat.le_of_ble_eq_true rfl⟩) rfl hl.1 rfl (lv_room (Nat.le_of_ble_eq_true rfl)) ⟨Nat.le_of_ble_eq_true rfl, Nat.le_of_ble_eq_true rfl⟩ dX1_masons_4 ?_
  obtain ⟨o_4, hc_3, hrun⟩ := mox_s rfl hrun
  have hP : va_P D zCl ([] ++ ([] ++ (((cH k ah aw adr aim ard asc ath awl alo atr sh) ++ (cW k aw sw)) ++ w0))) _ := hP
  have hD : va_D A ([] ++ ([] ++ (((cH k ah aw adr aim ard asc ath awl alo atr sh) ++ (cW k aw sw)) ++ w0))) := hD
  refine cXS [] [] (((cH k ah aw adr aim ard asc ath awl alo atr sh) ++ (cW k aw sw)) ++ w0) (As := [.int (bz r_2)]) ⟨hx, hb, hml, hown, hts⟩ hOK hz hS hA hP hD (mtX1_demand l D Z hOK hlt hTh _ o_4 hc_3) (kX1_demand hts q1627 rfl rfl ⟨Nat.le_of_ble_eq_true rfl, Nat.le_of_ble_eq_true rfl⟩) rfl hl.1 rfl (lv_room (Nat.le_of_ble_eq_true rfl)) ⟨Nat.le_of_ble_eq_true rfl, Nat.le_of_ble_eq_true rfl⟩ dX1_masons_7 (fun E_ w_ ce_ q9_ H locs hq hP hD hS hce hcv hcl => ?_) (fun r_ w_ H locs hq hP hD hS => ?_)
  · obtain ⟨rfl, rfl⟩ := hq
    have hrun := moxl hrun
    cases hrun
    have hP : va_P D zCl (((cH k ah aw adr aim ard asc ath awl alo atr sh) ++ (cW k aw sw)) ++ w0) _ := hP
    have hD : va_D A (((cH k ah aw adr aim ard asc ath awl alo atr sh) ++ (cW k aw sw)) ++ w0) := hD
    exact zout hnoh hlocks hce hcv hcl hP hD hS ⟨_, rfl, rfl⟩ (Nat.le_of_ble_eq_true rfl) (Nat.le_of_ble_eq_true rfl)
  obtain ⟨rfl, rfl, rfl⟩ := hq
  have hrun := moxr hrun
  have hP : va_P D zCl (((cH k ah aw adr aim ard asc ath awl alo atr sh) ++ (cW k aw sw)) ++ w0) _ := hP
  have hD : va_D A (((cH k ah aw adr aim ard asc ath awl alo atr sh) ++ (cW k aw sw)) ++ w0) := hD
  refine lv_aload_n hx hb dX1_masons_10 rfl (lv_at hl 0 rfl) ?_
  have hP : va_P D zCl ([] ++ (((cH k ah aw adr aim ard asc ath awl alo atr sh) ++ (cW k aw sw)) ++ w0)) _ := hP
  have hD : va_D A ([] ++ (((cH k ah aw adr aim ard asc ath awl alo atr sh) ++ (cW k aw sw)) ++ w0)) := hD
  refine cWVP [] (((cH k ah aw adr aim ard asc ath awl alo atr sh) ++ (cW k aw sw)) ++ w0) (As := []) (ci := 1) ⟨hx, hb, hml, hown, hts⟩ hOK hz hS hA hP hD (mtX1_remembers l D k ah aw adr aim ard asc ath awl alo atr Z hOK hLs _ _ us w0 hw) (kX1_remembers hts q1637 rfl rfl ⟨Nat.le_of_ble_eq_true rfl, Nat.le_of_ble_eq_true rfl⟩) 0 rfl rfl rfl hl.1 rfl (lv_room (Nat.le_of_ble_eq_true rfl)) ⟨Nat.le_of_ble_eq_true rfl, Nat.le_of_ble_eq_true rfl⟩ dX1_masons_11 (fun r_ w_ H locs hq hP hD hS => ?_)
  obtain ⟨T_6, ub_7, ul_8, hli_9, hwl_10, rfl, rfl⟩ := hq
  have hP : va_P D zCl (((cH k ah aw adr aim ard asc ath awl alo atr sh) ++ (cW k aw sw)) ++ T_6) _ := hP
  have hD : va_D A (((cH k ah aw adr aim ard asc ath awl alo atr sh) ++ (cW k aw sw)) ++ T_6) := hD
  refine lv_aload_n hx hb dX1_masons_14 rfl (lv_at hl 0 rfl) ?_
  refine va_get (ci := 1) (v := .ref (aw 0)) (C := RX1) (T := TX1) (N := 10) hx hb hts in_X1 hown hK hP 0 rfl rfl 0 (by decide) (hts _ q370) (fun _ h9 => h9) rfl dX1_masons_15 ?_
  refine va_getN (ci := 2) (v := .int (wd_masons sw)) (C := RX2) (T := TX2) (N := 21) hx hb hts in_X2 hown hK hP 1 rfl rfl 5 (by decide) (va_Nw.use rfl (hN _ (zN_of q175 rfl))) (fun _ h9 => h9) rfl dX1_masons_18 ?_
  refine lv_istore_n (lv' := [(2, .int (wd_masons sw)), (0, .ref (ah 0)), (1, .int p1)]) hx hb dX1_masons_21 rfl hl (by decide) rfl (fun ls hl => ?_)
  refine lv_aload_n hx hb dX1_masons_22 rfl (lv_at hl 1 rfl) ?_
  refine va_get (ci := 1) (v := .ref (aw 0)) (C := RX1) (T := TX1) (N := 10) hx hb hts in_X1 hown hK hP 0 rfl rfl 0 (by decide) (hts _ q370) (fun _ h9 => h9) rfl dX1_masons_23 ?_
  refine lv_iload_n hx hb dX1_masons_26 rfl (lv_at hl 2 rfl) ?_
  refine va_putN (ci := 2) (v := .int p1) (ty := tyX2 5) (C := RX2) (T := TX2) (N := 21) hx hb hts in_X2 tyX2 tyX2_ok nmX2 hown hK hP hD hS 1 rfl rfl 5 (by decide) (va_Nw.use rfl (hN _ (zN_of q175 rfl))) (fun _ h9 => h9) rfl (tyX2_ok 5 (by decide)) rfl rfl (Nat.le_of_ble_eq_true rfl) dX1_masons_27 (fun H locs hP hD hS => ?_)
  have hP : va_P D zCl (((cH k ah aw adr aim ard asc ath awl alo atr sh) ++ (cW k aw (wd_s_masons sw p1))) ++ T_6) _ := hP
  have hD : va_D A (((cH k ah aw adr aim ard asc ath awl alo atr sh) ++ (cW k aw (wd_s_masons sw p1))) ++ T_6) := hD
  obtain ⟨sw_11, esw_11⟩ : ∃ z : Wd, z = (wd_s_masons sw p1) := ⟨_, rfl⟩
  rw [← esw_11] at hP hD
  have hrun := mlt_s hrun sw_11 esw_11
  refine lv_iload_n hx hb dX1_masons_30 rfl (lv_at hl 0 rfl) ?_
  cases hrun
  refine W.widen (k := 11) (n := 332) (Nat.le_of_ble_eq_true rfl) (Nat.le_of_ble_eq_true rfl) ?_
  exact vx_ret (retW_i hx hb hr hlocks hP hD hS ⟨T_6, ⟨ub_7, ul_8, hli_9, hwl_10⟩, _, _, rfl, rfl, rfl⟩ dX1_masons_31)
def rX1_buy : Room := { frames := 9, cells := 11, slots := 332, locals := 321 }
noncomputable def fX1_buy (sh : Kp) (sw : Wd) (p1 : Int32) : Option ((String × Wd) ⊕ (Int32 × Wd)) :=
  mob (fX1_in p1 (1 : Int32) (999 : Int32)) fun r_2 =>
  mox (fX1_demand r_2) (fun E_5 => some (.inl (E_5, sw))) fun _ =>
  mlt (zmn (9999 : Int32) ((wd_stones sw) + p1)) fun v_11 =>
  mlt (wd_s_stones sw v_11) fun sw_12 =>
  some (.inr ((wd_stones sw_12), sw_12))
theorem kX1_buy {R : Room} {s : State} {args : Array Value} {own : String} {idx mc ms : Nat} {rm : Room} (hts : ∀ w ∈ lw_all, w.before args s = true) (hl : Cond.methodLink own idx yX1_buy ∈ lw_all) (hrc : rm.cells = mc) (hrs : rm.slots = ms) (hR : rm.frames + 1 ≤ R.frames ∧ 8 + (2 + 11) + rm.locals ≤ R.locals) : CallW R s args own RX1 idx yX1_buy cX1_buy 2 (some .int) (ws_ yX1_buy cX1_buy 2 (some .int)) rm mc ms 1 :=
  cwV 1 hts (lw_V hl q1687 q1688 q107 q1689) rfl hrc hrs (by decide +kernel) hR
set_option maxHeartbeats 4000000 in
set_option maxRecDepth 100000 in
theorem mtX1_buy (l : Launch) (D : va_G) (k : Nat → ClassId) (ah : Nat → Nat) (aw : Nat → Nat) (adr : Nat → Nat) (aim : Nat → Nat) (ard : Nat → Nat) (asc : Nat → Nat) (ath : Nat → Nat) (awl : Nat → Nat) (alo : Nat → Nat) (atr : Nat → Nat) (Z : zZ) (hOK : zOK D zCl (zTys k) Z) (hlt : l.stackTraces = false) (hTh : zTh Z) {e0 mi : Nat} (hLs : zLs Z e0 mi) (us : List Wd) (w0 : va_W) (hw : wlP k e0 (awl 0) us w0) (sh : Kp) (sw : Wd) (p1 : Int32) (o : (String × Wd) ⊕ (Int32 × Wd)) (hrun : fX1_buy sh sw p1 = some o) :
    CtX l yX1_buy cX1_buy 2 (some .int) rX1_buy Z D zCl (((cH k ah aw adr aim ard asc ath awl alo atr sh) ++ (cW k aw sw)) ++ w0) [.ref (ah 0), .int p1] (fun r' w' => ∃ T_ : va_W, (∃ u0 ou : Wd, fX2_likens u0 sw = some ou ∧ wlP k e0 (awl 0) (puW us ou) T_) ∧ ∃ (r : Int32) (ow : Wd), o = .inr (r, ow) ∧ r' = (some (.int r)) ∧ w' = (((cH k ah aw adr aim ard asc ath awl alo atr sh) ++ (cW k aw ow)) ++ T_)) (fun E' w' => ∃ (ow : Wd), o = .inl (E', ow) ∧ w' = (((cH k ah aw adr aim ard asc ath awl alo atr sh) ++ (cW k aw ow)) ++ w0)) 11 332 := by
  refine CtX.of (by decide) (Nat.le_of_ble_eq_true rfl) ?_
  intro p e s m args below meth c A hE hnoh hA hP hD hS hz ls hl
  obtain ⟨hx, hb, hr, hml, hown, hts, hlocks, hname⟩ := hE
  have hown : s.vm.findClass RX1 = some m.cls := hown
  have hK := hOK.1 _ _ _ hz
  have hN := hOK.2.1 _ _ _ hz
  have hl : lv_has ls 2 [(0, .ref (ah 0)), (1, .int p1)] := hl
  unfold fX1_buy at hrun
  refine lv_iload_n hx hb dX1_buy_0 rfl (lv_at hl 1 rfl) ?_
  refine lv_iconst (v := (1 : Int32)) hx hb dX1_buy_1 (by decide) ?_
  refine lv_sipush (v := (999 : Int32)) hx hb dX1_buy_2 (by decide) ?_
  obtain ⟨r_2, hc_1, hrun⟩ := mob_s rfl hrun
  refine cRS (ws := []) (As := [.int p1, .int (1 : Int32), .int (999 : Int32)]) ⟨hx, hb, hml, hown, hts⟩ hOK hz hS zP0 (mtX1_in l D Z hOK _ _ _ _ hc_1) (kX1_in hts q647 rfl rfl ⟨Nat.le_of_ble_eq_true rfl, Nat.le_of_ble_eq_true rfl⟩) rfl hl.1 rfl (lv_room (Nat.le_of_ble_eq_true rfl)) ⟨Nat.le_of_ble_eq_true rfl, Nat.le_of_ble_eq_true rfl⟩ dX1_buy_5 ?_
  obtain ⟨o_4, hc_3, hrun⟩ := mox_s rfl hrun
  have hP : va_P D zCl ([] ++ ([] ++ (((cH k ah aw adr aim ard asc ath awl alo atr sh) ++ (cW k aw sw)) ++ w0))) _ := hP
  have hD : va_D A ([] ++ ([] ++ (((cH k ah aw adr aim ard asc ath awl alo atr sh) ++ (cW k aw sw)) ++ w0))) := hD
  refine cXS [] [] (((cH k ah aw adr aim ard asc ath awl alo atr sh) ++ (cW k aw sw)) ++ w0) (As := [.int (bz r_2)]) ⟨hx, hb, hml, hown, hts⟩ hOK hz hS hA hP hD (mtX1_demand l D Z hOK hlt hTh _ o_4 hc_3) (kX1_demand hts q1627 rfl rfl ⟨Nat.le_of_ble_eq_true rfl, Nat.le_of_ble_eq_true rfl⟩) rfl hl.1 rfl (lv_room (Nat.le_of_ble_eq_true rfl)) ⟨Nat.le_of_ble_eq_true rfl, Nat.le_of_ble_eq_true rfl⟩ dX1_buy_8 (fun E_ w_ ce_ q9_ H locs hq hP hD hS hce hcv hcl => ?_) (fun r_ w_ H locs hq hP hD hS => ?_)
  · obtain ⟨rfl, rfl⟩ := hq
    have hrun := moxl hrun
    cases hrun
    have hP : va_P D zCl (((cH k ah aw adr aim ard asc ath awl alo atr sh) ++ (cW k aw sw)) ++ w0) _ := hP
    have hD : va_D A (((cH k ah aw adr aim ard asc ath awl alo atr sh) ++ (cW k aw sw)) ++ w0) := hD
    exact zout hnoh hlocks hce hcv hcl hP hD hS ⟨_, rfl, rfl⟩ (Nat.le_of_ble_eq_true rfl) (Nat.le_of_ble_eq_true rfl)
  obtain ⟨rfl, rfl, rfl⟩ := hq
  have hrun := moxr hrun
  have hP : va_P D zCl (((cH k ah aw adr aim ard asc ath awl alo atr sh) ++ (cW k aw sw)) ++ w0) _ := hP
  have hD : va_D A (((cH k ah aw adr aim ard asc ath awl alo atr sh) ++ (cW k aw sw)) ++ w0) := hD
  refine lv_aload_n hx hb dX1_buy_11 rfl (lv_at hl 0 rfl) ?_
  have hP : va_P D zCl ([] ++ (((cH k ah aw adr aim ard asc ath awl alo atr sh) ++ (cW k aw sw)) ++ w0)) _ := hP
  have hD : va_D A ([] ++ (((cH k ah aw adr aim ard asc ath awl alo atr sh) ++ (cW k aw sw)) ++ w0)) := hD
  refine cWVP [] (((cH k ah aw adr aim ard asc ath awl alo atr sh) ++ (cW k aw sw)) ++ w0) (As := []) (ci := 1) ⟨hx, hb, hml, hown, hts⟩ hOK hz hS hA hP hD (mtX1_remembers l D k ah aw adr aim ard asc ath awl alo atr Z hOK hLs _ _ us w0 hw) (kX1_remembers hts q1637 rfl rfl ⟨Nat.le_of_ble_eq_true rfl, Nat.le_of_ble_eq_true rfl⟩) 0 rfl rfl rfl hl.1 rfl (lv_room (Nat.le_of_ble_eq_true rfl)) ⟨Nat.le_of_ble_eq_true rfl, Nat.le_of_ble_eq_true rfl⟩ dX1_buy_12 (fun r_ w_ H locs hq hP hD hS => ?_)
  obtain ⟨T_6, ub_7, ul_8, hli_9, hwl_10, rfl, rfl⟩ := hq
  have hP : va_P D zCl (((cH k ah aw adr aim ard asc ath awl alo atr sh) ++ (cW k aw sw)) ++ T_6) _ := hP
  have hD : va_D A (((cH k ah aw adr aim ard asc ath awl alo atr sh) ++ (cW k aw sw)) ++ T_6) := hD
  refine lv_aload_n hx hb dX1_buy_15 rfl (lv_at hl 0 rfl) ?_
  refine va_get (ci := 1) (v := .ref (aw 0)) (C := RX1) (T := TX1) (N := 10) hx hb hts in_X1 hown hK hP 0 rfl rfl 0 (by decide) (hts _ q370) (fun _ h9 => h9) rfl dX1_buy_16 ?_
  refine lv_sipush (v := (9999 : Int32)) hx hb dX1_buy_19 (by decide) ?_
  refine lv_aload_n hx hb dX1_buy_22 rfl (lv_at hl 0 rfl) ?_
  refine va_get (ci := 1) (v := .ref (aw 0)) (C := RX1) (T := TX1) (N := 10) hx hb hts in_X1 hown hK hP 0 rfl rfl 0 (by decide) (hts _ q370) (fun _ h9 => h9) rfl dX1_buy_23 ?_
  refine va_getN (ci := 2) (v := .int (wd_stones sw)) (C := RX2) (T := TX2) (N := 21) hx hb hts in_X2 hown hK hP 1 rfl rfl 6 (by decide) (va_Nw.use rfl (hN _ (zN_of q177 rfl))) (fun _ h9 => h9) rfl dX1_buy_26 ?_
  refine lv_iload_n hx hb dX1_buy_29 rfl (lv_at hl 1 rfl) ?_
  refine lv_iadd hx hb dX1_buy_30 ?_
  refine va_mmin hx hb (hml.trans hl.1.symm) hown (hts _ q1690) (hts _ q550) (hts _ q122) (hts _ q551) (Nat.le_of_ble_eq_true rfl) (Nat.le_of_ble_eq_true rfl) (Nat.le_of_ble_eq_true rfl) (Nat.le_of_ble_eq_true rfl) dX1_buy_31 ?_
  refine lv_topi (fun v_11 ev_11 => ?_)
  have hrun := mlt_s hrun v_11 ev_11
  refine va_putN (ci := 2) (v := .int v_11) (ty := tyX2 6) (C := RX2) (T := TX2) (N := 21) hx hb hts in_X2 tyX2 tyX2_ok nmX2 hown hK hP hD hS 1 rfl rfl 6 (by decide) (va_Nw.use rfl (hN _ (zN_of q177 rfl))) (fun _ h9 => h9) rfl (tyX2_ok 6 (by decide)) rfl rfl (Nat.le_of_ble_eq_true rfl) dX1_buy_34 (fun H locs hP hD hS => ?_)
  have hP : va_P D zCl (((cH k ah aw adr aim ard asc ath awl alo atr sh) ++ (cW k aw (wd_s_stones sw v_11))) ++ T_6) _ := hP
  have hD : va_D A (((cH k ah aw adr aim ard asc ath awl alo atr sh) ++ (cW k aw (wd_s_stones sw v_11))) ++ T_6) := hD
  obtain ⟨sw_12, esw_12⟩ : ∃ z : Wd, z = (wd_s_stones sw v_11) := ⟨_, rfl⟩
  rw [← esw_12] at hP hD
  have hrun := mlt_s hrun sw_12 esw_12
  refine lv_aload_n hx hb dX1_buy_37 rfl (lv_at hl 0 rfl) ?_
  refine va_get (ci := 1) (v := .ref (aw 0)) (C := RX1) (T := TX1) (N := 10) hx hb hts in_X1 hown hK hP 0 rfl rfl 0 (by decide) (hts _ q370) (fun _ h9 => h9) rfl dX1_buy_38 ?_
  refine va_getN (ci := 2) (v := .int (wd_stones sw_12)) (C := RX2) (T := TX2) (N := 21) hx hb hts in_X2 hown hK hP 1 rfl rfl 6 (by decide) (va_Nw.use rfl (hN _ (zN_of q177 rfl))) (fun _ h9 => h9) rfl dX1_buy_41 ?_
  cases hrun
  refine W.widen (k := 11) (n := 332) (Nat.le_of_ble_eq_true rfl) (Nat.le_of_ble_eq_true rfl) ?_
  exact vx_ret (retW_i hx hb hr hlocks hP hD hS ⟨T_6, ⟨ub_7, ul_8, hli_9, hwl_10⟩, _, _, rfl, rfl, rfl⟩ dX1_buy_44)
def rX1_calm : Room := { frames := 9, cells := 11, slots := 332, locals := 321 }
noncomputable def fX1_calm (sh : Kp) (sw : Wd) (p1 : Int32) : Option ((String × Wd) ⊕ (Int32 × Wd)) :=
  mox (fX1_guestAt sh sw p1) (fun E_3 => some (.inl (E_3, sw))) fun _ =>
  mck p1 8 <|
  mck p1 8 <|
  mlt (wd_s_doubt sw (upd (wd_doubt sw) (Int32.toNatClampNeg p1) (((wd_doubt sw) (Int32.toNatClampNeg p1)) / (2 : Int32)))) fun sw_11 =>
  mck p1 8 <|
  some (.inr (((wd_doubt sw_11) (Int32.toNatClampNeg p1)), sw_11))
theorem kX1_calm {R : Room} {s : State} {args : Array Value} {own : String} {idx mc ms : Nat} {rm : Room} (hts : ∀ w ∈ lw_all, w.before args s = true) (hl : Cond.methodLink own idx yX1_calm ∈ lw_all) (hrc : rm.cells = mc) (hrs : rm.slots = ms) (hR : rm.frames + 1 ≤ R.frames ∧ 8 + (2 + 11) + rm.locals ≤ R.locals) : CallW R s args own RX1 idx yX1_calm cX1_calm 2 (some .int) (ws_ yX1_calm cX1_calm 2 (some .int)) rm mc ms 1 :=
  cwV 1 hts (lw_V hl q1695 q1696 q107 q1697) rfl hrc hrs (by decide +kernel) hR
set_option maxHeartbeats 4000000 in
set_option maxRecDepth 100000 in
theorem mtX1_calm (l : Launch) (D : va_G) (k : Nat → ClassId) (ah : Nat → Nat) (aw : Nat → Nat) (adr : Nat → Nat) (aim : Nat → Nat) (ard : Nat → Nat) (asc : Nat → Nat) (ath : Nat → Nat) (awl : Nat → Nat) (alo : Nat → Nat) (atr : Nat → Nat) (Z : zZ) (hOK : zOK D zCl (zTys k) Z) (hlt : l.stackTraces = false) (hTh : zTh Z) {e0 mi : Nat} (hLs : zLs Z e0 mi) (us : List Wd) (w0 : va_W) (hw : wlP k e0 (awl 0) us w0) (sh : Kp) (sw : Wd) (p1 : Int32) (o : (String × Wd) ⊕ (Int32 × Wd)) (hrun : fX1_calm sh sw p1 = some o) :
    CtX l yX1_calm cX1_calm 2 (some .int) rX1_calm Z D zCl (((cH k ah aw adr aim ard asc ath awl alo atr sh) ++ (cW k aw sw)) ++ w0) [.ref (ah 0), .int p1] (fun r' w' => ∃ T_ : va_W, (∃ u0 ou : Wd, fX2_likens u0 sw = some ou ∧ wlP k e0 (awl 0) (puW us ou) T_) ∧ ∃ (r : Int32) (ow : Wd), o = .inr (r, ow) ∧ r' = (some (.int r)) ∧ w' = (((cH k ah aw adr aim ard asc ath awl alo atr sh) ++ (cW k aw ow)) ++ T_)) (fun E' w' => ∃ (ow : Wd), o = .inl (E', ow) ∧ w' = (((cH k ah aw adr aim ard asc ath awl alo atr sh) ++ (cW k aw ow)) ++ w0)) 11 332 := by
  refine CtX.of (by decide) (Nat.le_of_ble_eq_true rfl) ?_
  intro p e s m args below meth c A hE hnoh hA hP hD hS hz ls hl
  obtain ⟨hx, hb, hr, hml, hown, hts, hlocks, hname⟩ := hE
  have hown : s.vm.findClass RX1 = some m.cls := hown
  have hK := hOK.1 _ _ _ hz
  have hN := hOK.2.1 _ _ _ hz
  have hl : lv_has ls 2 [(0, .ref (ah 0)), (1, .int p1)] := hl
  unfold fX1_calm at hrun
  refine lv_aload_n hx hb dX1_calm_0 rfl (lv_at hl 0 rfl) ?_
  refine lv_iload_n hx hb dX1_calm_1 rfl (lv_at hl 1 rfl) ?_
  obtain ⟨o_2, hc_1, hrun⟩ := mox_s rfl hrun
  have hP : va_P D zCl ([] ++ (((cH k ah aw adr aim ard asc ath awl alo atr sh) ++ (cW k aw sw)) ++ ([] ++ w0))) _ := hP
  have hD : va_D A ([] ++ (((cH k ah aw adr aim ard asc ath awl alo atr sh) ++ (cW k aw sw)) ++ ([] ++ w0))) := hD
  refine cXV [] ((cH k ah aw adr aim ard asc ath awl alo atr sh) ++ (cW k aw sw)) ([] ++ w0) (As := [.int p1]) (ci := 1) ⟨hx, hb, hml, hown, hts⟩ hOK hz hS hA hP hD (mtX1_guestAt l D k ah aw adr aim ard asc ath awl alo atr Z hOK hlt hTh _ _ _ o_2 hc_1) (kX1_guestAt hts q1552 rfl rfl ⟨Nat.le_of_ble_eq_true rfl, Nat.le_of_ble_eq_true rfl⟩) 0 rfl rfl rfl hl.1 rfl (lv_room (Nat.le_of_ble_eq_true rfl)) ⟨Nat.le_of_ble_eq_true rfl, Nat.le_of_ble_eq_true rfl⟩ dX1_calm_2 (fun E_ w_ ce_ q9_ H locs hq hP hD hS hce hcv hcl => ?_) (fun r_ w_ H locs hq hP hD hS => ?_)
  · obtain ⟨rfl, rfl⟩ := hq
    have hrun := moxl hrun
    cases hrun
    have hP : va_P D zCl (((cH k ah aw adr aim ard asc ath awl alo atr sh) ++ (cW k aw sw)) ++ w0) _ := hP
    have hD : va_D A (((cH k ah aw adr aim ard asc ath awl alo atr sh) ++ (cW k aw sw)) ++ w0) := hD
    exact zout hnoh hlocks hce hcv hcl hP hD hS ⟨_, rfl, rfl⟩ (Nat.le_of_ble_eq_true rfl) (Nat.le_of_ble_eq_true rfl)
  obtain ⟨rfl, rfl, rfl⟩ := hq
  have hrun := moxr hrun
  have hP : va_P D zCl (((cH k ah aw adr aim ard asc ath awl alo atr sh) ++ (cW k aw sw)) ++ w0) _ := hP
  have hD : va_D A (((cH k ah aw adr aim ard asc ath awl alo atr sh) ++ (cW k aw sw)) ++ w0) := hD
  refine lv_aload_n hx hb dX1_calm_5 rfl (lv_at hl 0 rfl) ?_
  have hP : va_P D zCl ([] ++ (((cH k ah aw adr aim ard asc ath awl alo atr sh) ++ (cW k aw sw)) ++ w0)) _ := hP
  have hD : va_D A ([] ++ (((cH k ah aw adr aim ard asc ath awl alo atr sh) ++ (cW k aw sw)) ++ w0)) := hD
  refine cWVP [] (((cH k ah aw adr aim ard asc ath awl alo atr sh) ++ (cW k aw sw)) ++ w0) (As := []) (ci := 1) ⟨hx, hb, hml, hown, hts⟩ hOK hz hS hA hP hD (mtX1_remembers l D k ah aw adr aim ard asc ath awl alo atr Z hOK hLs _ _ us w0 hw) (kX1_remembers hts q1637 rfl rfl ⟨Nat.le_of_ble_eq_true rfl, Nat.le_of_ble_eq_true rfl⟩) 0 rfl rfl rfl hl.1 rfl (lv_room (Nat.le_of_ble_eq_true rfl)) ⟨Nat.le_of_ble_eq_true rfl, Nat.le_of_ble_eq_true rfl⟩ dX1_calm_6 (fun r_ w_ H locs hq hP hD hS => ?_)
  obtain ⟨T_4, ub_5, ul_6, hli_7, hwl_8, rfl, rfl⟩ := hq
  have hP : va_P D zCl (((cH k ah aw adr aim ard asc ath awl alo atr sh) ++ (cW k aw sw)) ++ T_4) _ := hP
  have hD : va_D A (((cH k ah aw adr aim ard asc ath awl alo atr sh) ++ (cW k aw sw)) ++ T_4) := hD
  refine lv_aload_n hx hb dX1_calm_9 rfl (lv_at hl 0 rfl) ?_
  refine va_get (ci := 1) (v := .ref (aw 0)) (C := RX1) (T := TX1) (N := 10) hx hb hts in_X1 hown hK hP 0 rfl rfl 0 (by decide) (hts _ q370) (fun _ h9 => h9) rfl dX1_calm_10 ?_
  refine va_getN (ci := 2) (v := .ref (aw 4)) (C := RX2) (T := TX2) (N := 21) hx hb hts in_X2 hown hK hP 1 rfl rfl 15 (by decide) (va_Nw.use rfl (hN _ (zN_of q196 rfl))) (fun _ h9 => h9) rfl dX1_calm_13 ?_
  refine lv_iload_n hx hb dX1_calm_16 rfl (lv_at hl 1 rfl) ?_
  refine lv_dup2_11 hx hb dX1_calm_17 rfl rfl ?_
  obtain ⟨hb_9, hrun⟩ := mck_s rfl hrun
  refine va_iald hx hb hK hP 5 0 rfl rfl hb_9 dX1_calm_18 ?_
  refine lv_iconst (v := (2 : Int32)) hx hb dX1_calm_19 (by decide) ?_
  refine lv_idiv hx hb dX1_calm_20 (by decide) ?_
  obtain ⟨hb_10, hrun⟩ := mck_s rfl hrun
  refine va_iast hx hb hK hP hD hS 5 0 rfl rfl hb_10 dX1_calm_21 (fun H locs hP hD hS => ?_)
  have hP : va_P D zCl (((cH k ah aw adr aim ard asc ath awl alo atr sh) ++ (cW k aw (wd_s_doubt sw (upd (wd_doubt sw) (Int32.toNatClampNeg p1) (((wd_doubt sw) (Int32.toNatClampNeg p1)) / (2 : Int32)))))) ++ T_4) _ := hP
  have hD : va_D A (((cH k ah aw adr aim ard asc ath awl alo atr sh) ++ (cW k aw (wd_s_doubt sw (upd (wd_doubt sw) (Int32.toNatClampNeg p1) (((wd_doubt sw) (Int32.toNatClampNeg p1)) / (2 : Int32)))))) ++ T_4) := hD
  obtain ⟨sw_11, esw_11⟩ : ∃ z : Wd, z = (wd_s_doubt sw (upd (wd_doubt sw) (Int32.toNatClampNeg p1) (((wd_doubt sw) (Int32.toNatClampNeg p1)) / (2 : Int32)))) := ⟨_, rfl⟩
  rw [← esw_11] at hP hD
  have hrun := mlt_s hrun sw_11 esw_11
  refine lv_aload_n hx hb dX1_calm_22 rfl (lv_at hl 0 rfl) ?_
  refine va_get (ci := 1) (v := .ref (aw 0)) (C := RX1) (T := TX1) (N := 10) hx hb hts in_X1 hown hK hP 0 rfl rfl 0 (by decide) (hts _ q370) (fun _ h9 => h9) rfl dX1_calm_23 ?_
  refine va_getN (ci := 2) (v := .ref (aw 4)) (C := RX2) (T := TX2) (N := 21) hx hb hts in_X2 hown hK hP 1 rfl rfl 15 (by decide) (va_Nw.use rfl (hN _ (zN_of q196 rfl))) (fun _ h9 => h9) rfl dX1_calm_26 ?_
  refine lv_iload_n hx hb dX1_calm_29 rfl (lv_at hl 1 rfl) ?_
  obtain ⟨hb_12, hrun⟩ := mck_s rfl hrun
  refine va_iald hx hb hK hP 5 0 rfl rfl hb_12 dX1_calm_30 ?_
  cases hrun
  refine W.widen (k := 11) (n := 332) (Nat.le_of_ble_eq_true rfl) (Nat.le_of_ble_eq_true rfl) ?_
  exact vx_ret (retW_i hx hb hr hlocks hP hD hS ⟨T_4, ⟨ub_5, ul_6, hli_7, hwl_8⟩, _, _, rfl, rfl, rfl⟩ dX1_calm_31)
def rX1_back : Room := { frames := 3, cells := 0, slots := 0, locals := 111 }
noncomputable def fX1_back (sh : Kp) (sw : Wd) (sim : Wd) : Option (Bool × Wd) :=
  if (kp_hasImage sh) = true then
    mob (fX2_likens sw sim) fun sw_3 =>
    some (true, sw_3)
  else
    some (false, sw)
theorem kX1_back {R : Room} {s : State} {args : Array Value} {own : String} {idx mc ms : Nat} {rm : Room} (hts : ∀ w ∈ lw_all, w.before args s = true) (hl : Cond.methodLink own idx yX1_back ∈ lw_all) (hrc : rm.cells = mc) (hrs : rm.slots = ms) (hR : rm.frames + 1 ≤ R.frames ∧ 8 + (1 + 11) + rm.locals ≤ R.locals) : CallW R s args own RX1 idx yX1_back cX1_back 1 (some .boolean) (ws_ yX1_back cX1_back 1 (some .boolean)) rm mc ms 0 :=
  cwV 0 hts (lw_V hl q729 q730 q107 q731) rfl hrc hrs (by decide +kernel) hR
set_option maxHeartbeats 4000000 in
set_option maxRecDepth 100000 in
theorem mtX1_back (l : Launch) (D : va_G) (k : Nat → ClassId) (ah : Nat → Nat) (aw : Nat → Nat) (adr : Nat → Nat) (aim : Nat → Nat) (ard : Nat → Nat) (asc : Nat → Nat) (ath : Nat → Nat) (awl : Nat → Nat) (alo : Nat → Nat) (atr : Nat → Nat) (Z : zZ) (hOK : zOK D zCl (zTys k) Z) {e0 mi : Nat} (hLs : zLs Z e0 mi) (us : List Wd) (w0 : va_W) (hw : wlP k e0 (awl 0) us w0) (sh : Kp) (sw : Wd) (sim : Wd) (r : Bool) (ow : Wd) (hrun : fX1_back sh sw sim = some (r, ow)) :
    CtW l yX1_back cX1_back 1 (some .boolean) rX1_back Z D zCl (((cH k ah aw adr aim ard asc ath awl alo atr sh) ++ ((cW k aw sw) ++ (cW k aim sim))) ++ w0) [.ref (ah 0)] (fun r' w' => ∃ T_ : va_W, (r' = some (.int (bz false)) ∧ T_ = w0 ∨ r' = some (.int (bz true)) ∧ wlP k e0 (awl 0) [] T_) ∧ r' = (some (.int (bz r))) ∧ w' = (((cH k ah aw adr aim ard asc ath awl alo atr sh) ++ ((cW k aw ow) ++ (cW k aim sim))) ++ T_)) 0 0 := by
  refine CtW.of (by decide) (Nat.le_of_ble_eq_true rfl) ?_
  intro p e s m args below meth c A hE hA hP hD hS hz ls hl
  obtain ⟨hx, hb, hr, hml, hown, hts, hlocks, hname⟩ := hE
  have hown : s.vm.findClass RX1 = some m.cls := hown
  have hK := hOK.1 _ _ _ hz
  have hN := hOK.2.1 _ _ _ hz
  have hl : lv_has ls 1 [(0, .ref (ah 0))] := hl
  unfold fX1_back at hrun
  refine lv_aload_n hx hb dX1_back_0 rfl (lv_at hl 0 rfl) ?_
  refine va_get (ci := 1) (v := .int (bz (kp_hasImage sh))) (C := RX1) (T := TX1) (N := 10) hx hb hts in_X1 hown hK hP 0 rfl rfl 3 (by decide) (hts _ q374) (fun _ h9 => h9) rfl dX1_back_1 ?_
  refine lv_if_ne (tgt := 9) hx hb dX1_back_4 (by decide) (fun c_1 => ?_) (fun c_1 => ?_)
  · have hrun := mif_p (bz_nz c_1) hrun
    refine lv_aload_n hx hb dX1_back_9 rfl (lv_at hl 0 rfl) ?_
    refine va_get (ci := 1) (v := .ref (aw 0)) (C := RX1) (T := TX1) (N := 10) hx hb hts in_X1 hown hK hP 0 rfl rfl 0 (by decide) (hts _ q370) (fun _ h9 => h9) rfl dX1_back_10 ?_
    refine lv_aload_n hx hb dX1_back_13 rfl (lv_at hl 0 rfl) ?_
    refine va_get (ci := 1) (v := .ref (aim 0)) (C := RX1) (T := TX1) (N := 10) hx hb hts in_X1 hown hK hP 0 rfl rfl 2 (by decide) (hts _ q373) (fun _ h9 => h9) rfl dX1_back_14 ?_
    obtain ⟨sw_3, hc_2, hrun⟩ := mob_s rfl hrun
    have hP := zsubT (w' := ((cW k aw sw) ++ (cW k aim sim)) ++ (cH k ah aw adr aim ard asc ath awl alo atr sh)) hP [1, 2, 3, 4, 5, 6, 7, 8, 9, 10, 11, 12, 13, 14, 15, 16, 17, 18, 0] rfl
    have hD := zsubTD (w' := ((cW k aw sw) ++ (cW k aim sim)) ++ (cH k ah aw adr aim ard asc ath awl alo atr sh)) hD [1, 2, 3, 4, 5, 6, 7, 8, 9, 10, 11, 12, 13, 14, 15, 16, 17, 18, 0] (by decide) rfl
    have hP : va_P D zCl ([] ++ (((cW k aw sw) ++ (cW k aim sim)) ++ ((cH k ah aw adr aim ard asc ath awl alo atr sh) ++ w0))) _ := hP
    have hD : va_D A ([] ++ (((cW k aw sw) ++ (cW k aim sim)) ++ ((cH k ah aw adr aim ard asc ath awl alo atr sh) ++ w0))) := hD
    refine cWV [] ((cW k aw sw) ++ (cW k aim sim)) ((cH k ah aw adr aim ard asc ath awl alo atr sh) ++ w0) (As := [.ref (aim 0)]) (ci := 2) ⟨hx, hb, hml, hown, hts⟩ hOK hz hS hA hP hD (mtX2_likens l D k aw aim Z hOK _ _ _ hc_2) (kX2_likens hts q434 rfl rfl ⟨Nat.le_of_ble_eq_true rfl, Nat.le_of_ble_eq_true rfl⟩) 0 rfl rfl rfl hl.1 rfl (lv_room (Nat.le_of_ble_eq_true rfl)) ⟨Nat.le_of_ble_eq_true rfl, Nat.le_of_ble_eq_true rfl⟩ dX1_back_17 (fun r_ w_ H locs hq hP hD hS => ?_)
    obtain ⟨rfl, rfl⟩ := hq
    have hP : va_P D zCl (((cW k aw sw_3) ++ ((cW k aim sim) ++ (cH k ah aw adr aim ard asc ath awl alo atr sh))) ++ w0) _ := hP
    have hD : va_D A (((cW k aw sw_3) ++ ((cW k aim sim) ++ (cH k ah aw adr aim ard asc ath awl alo atr sh))) ++ w0) := hD
    have hP := zsubT (w' := ((cH k ah aw adr aim ard asc ath awl alo atr sh) ++ ((cW k aw sw_3) ++ (cW k aim sim)))) hP [18, 0, 1, 2, 3, 4, 5, 6, 7, 8, 9, 10, 11, 12, 13, 14, 15, 16, 17] rfl
    have hD := zsubTD (w' := ((cH k ah aw adr aim ard asc ath awl alo atr sh) ++ ((cW k aw sw_3) ++ (cW k aim sim)))) hD [18, 0, 1, 2, 3, 4, 5, 6, 7, 8, 9, 10, 11, 12, 13, 14, 15, 16, 17] (by decide) rfl
    refine lv_pop hx hb dX1_back_20 rfl ?_
    refine lv_aload_n hx hb dX1_back_21 rfl (lv_at hl 0 rfl) ?_
    refine va_get (ci := 1) (v := .ref (awl 0)) (C := RX1) (T := TX1) (N := 10) hx hb hts in_X1 hown hK hP 0 rfl rfl 7 (by decide) (hts _ q378) (fun _ h9 => h9) rfl dX1_back_22 ?_
    refine cClr ((cH k ah aw adr aim ard asc ath awl alo atr sh) ++ ((cW k aw sw_3) ++ (cW k aim sim))) w0 ⟨hx, hb, hml, hown, hts⟩ hOK hz hS hA hw hP hD (kJ2_clear hts q732 rfl rfl ⟨Nat.le_of_ble_eq_true rfl, Nat.le_of_ble_eq_true rfl⟩) hl.1 (lv_room (Nat.le_of_ble_eq_true rfl)) ⟨Nat.le_of_ble_eq_true rfl, Nat.le_of_ble_eq_true rfl⟩ dX1_back_25 (fun T_4 H locs hwl_5 hP hD hS => ?_)
    refine lv_iconst (v := (1 : Int32)) hx hb dX1_back_28 (by decide) ?_
    cases hrun
    exact retW_z (v := true) hx hb hr hlocks hP hD hS ⟨T_4, (Or.inr ⟨rfl, hwl_5⟩), rfl, rfl⟩ dX1_back_29
  have hrun := mif_n (bz_z c_1) hrun
  refine lv_iconst (v := (0 : Int32)) hx hb dX1_back_7 (by decide) ?_
  cases hrun
  exact retW_z (v := false) hx hb hr hlocks hP hD hS ⟨w0, (Or.inl ⟨rfl, rfl⟩), rfl, rfl⟩ dX1_back_8
