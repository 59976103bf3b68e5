/-! A GUEST IS TOLD -/
def rX1_after : Room := { frames := 8, cells := 11, slots := 1612, locals := 381 }
noncomputable def fX1_after (sh : Kp) (srd : Rd) (p1 : Nat) (p2 : Int32) (p3 : Int32) : Option ((String × Rd) ⊕ (Int32 × Rd)) :=
  mox (fX1_needs sh srd p1) (fun E_4 => some (.inl (E_4.1, (E_4.2)))) fun srd_3 =>
  mox (fX3_number srd_3 p2 p3) (fun E_9 => some (.inl (E_9.1, (E_9.2)))) fun q_10 =>
  some (.inr ((q_10.1), (q_10.2)))
theorem kX1_after {R : Room} {s : State} {args : Array Value} {own : String} {idx mc ms : Nat} {rm : Room} (hts : ∀ w ∈ lw_all, w.before args s = true) (hl : Cond.methodLink own idx yX1_after ∈ lw_all) (hrc : rm.cells = mc) (hrs : rm.slots = ms) (hR : rm.frames + 1 ≤ R.frames ∧ 8 + (4 + 11) + rm.locals ≤ R.locals) : CallW R s args own RX1 idx yX1_after cX1_after 4 (some .int) (ws_ yX1_after cX1_after 4 (some .int)) rm mc ms 3 :=
  cwV 3 hts (lw_V hl q1226 qs18 q107 q1227) rfl hrc hrs (by decide +kernel) hR
set_option maxHeartbeats 4000000 in
set_option maxRecDepth 100000 in
theorem mtX1_after (l : Launch) (D : va_G) (k : Nat → ClassId) (ah : Nat → Nat) (aw : Nat → Nat) (adr : Nat → Nat) (aim : Nat → Nat) (ard : Nat → Nat) (asc : Nat → Nat) (ath : Nat → Nat) (awl : Nat → Nat) (alo : Nat → Nat) (atr : Nat → Nat) (Z : zZ) (hOK : zOK D zCl (zTys k) Z) (hlt : l.stackTraces = false) (hTh : zTh Z) {adK adV : Nat → Nat} (hStr : zStr Z adK adV) (hPv : zPv Z) (sh : Kp) (srd : Rd) (p1 : Nat) (p2 : Int32) (p3 : Int32) (o : (String × Rd) ⊕ (Int32 × Rd)) (hrun : fX1_after sh srd p1 p2 p3 = some o) :
    CtX l yX1_after cX1_after 4 (some .int) rX1_after Z D zCl ((cH k ah aw adr aim ard asc ath awl alo atr sh) ++ (cR k ard srd)) [.ref (ah 0), .ref (adK p1), .int p2, .int p3] (fun r' w' => ∃ (r : Int32) (ord : Rd), o = .inr (r, ord) ∧ r' = (some (.int r)) ∧ w' = ((cH k ah aw adr aim ard asc ath awl alo atr sh) ++ (cR k ard ord))) (fun E' w' => ∃ (ord : Rd), o = .inl (E', ord) ∧ w' = ((cH k ah aw adr aim ard asc ath awl alo atr sh) ++ (cR k ard ord))) 11 1612 := by
  refine CtX.of (by decide) (Nat.le_of_ble_eq_true rfl) ?_
  intro p e s m args below meth c A hE hnoh hA hP hD hS hz ls hl
  obtain ⟨hx, hb, hr, hml, hown, hts, hlocks, hname⟩ := hE
  have hown : s.vm.findClass RX1 = some m.cls := hown
  have hK := hOK.1 _ _ _ hz
  have hN := hOK.2.1 _ _ _ hz
  have hl : lv_has ls 4 [(0, .ref (ah 0)), (1, .ref (adK p1)), (2, .int p2), (3, .int p3)] := hl
  unfold fX1_after at hrun
  refine lv_aload_n hx hb dX1_after_0 rfl (lv_at hl 0 rfl) ?_
  refine lv_aload_n hx hb dX1_after_1 rfl (lv_at hl 1 rfl) ?_
  obtain ⟨o_2, hc_1, hrun⟩ := mox_s rfl hrun
  have hP := hP.sub (ws' := ([] ++ (((cH k ah aw adr aim ard asc ath awl alo atr sh) ++ (cR k ard srd)) ++ []))) [0, 1, 2] rfl
  have hD := hD.sub (ws' := ([] ++ (((cH k ah aw adr aim ard asc ath awl alo atr sh) ++ (cR k ard srd)) ++ []))) [0, 1, 2] (by decide) rfl
  refine cXV [] ((cH k ah aw adr aim ard asc ath awl alo atr sh) ++ (cR k ard srd)) [] (As := [.ref (adK p1)]) (ci := 1) ⟨hx, hb, hml, hown, hts⟩ hOK hz hS hA hP hD (mtX1_needs l D k ah aw adr aim ard asc ath awl alo atr Z hOK hlt hTh hStr hPv _ _ _ o_2 hc_1) (kX1_needs hts q1228 rfl rfl ⟨Nat.le_of_ble_eq_true rfl, Nat.le_of_ble_eq_true rfl⟩) 0 rfl rfl rfl hl.1 rfl (lv_room (Nat.le_of_ble_eq_true rfl)) ⟨Nat.le_of_ble_eq_true rfl, Nat.le_of_ble_eq_true rfl⟩ dX1_after_2 (fun E_ w_ ce_ q9_ H locs hq hP hD hS hce hcv hcl => ?_) (fun r_ w_ H locs hq hP hD hS => ?_)
  · obtain ⟨srd_3x, rfl, rfl⟩ := hq
    have hrun := moxl hrun
    cases hrun
    have hP := hP.sub (ws' := ((cH k ah aw adr aim ard asc ath awl alo atr sh) ++ (cR k ard srd_3x))) [0, 1, 2] rfl
    have hD := hD.sub (ws' := ((cH k ah aw adr aim ard asc ath awl alo atr sh) ++ (cR k ard srd_3x))) [0, 1, 2] (by decide) rfl
    exact zout hnoh hlocks hce hcv hcl hP hD hS ⟨_, rfl, rfl⟩ (Nat.le_of_ble_eq_true rfl) (Nat.le_of_ble_eq_true rfl)
  obtain ⟨srd_3, rfl, rfl, rfl⟩ := hq
  have hrun := moxr hrun
  have hP := hP.sub (ws' := ((cH k ah aw adr aim ard asc ath awl alo atr sh) ++ (cR k ard srd_3))) [0, 1, 2] rfl
  have hD := hD.sub (ws' := ((cH k ah aw adr aim ard asc ath awl alo atr sh) ++ (cR k ard srd_3))) [0, 1, 2] (by decide) rfl
  refine lv_aload_n hx hb dX1_after_5 rfl (lv_at hl 0 rfl) ?_
  refine va_get (ci := 1) (v := .ref (ard 0)) (C := RX1) (T := TX1) (N := 10) hx hb hts in_X1 hown hK hP 0 rfl rfl 4 (by decide) (hts _ q375) (fun _ h9 => h9) rfl dX1_after_6 ?_
  refine lv_iload_n hx hb dX1_after_9 rfl (lv_at hl 2 rfl) ?_
  refine lv_iload_n hx hb dX1_after_10 rfl (lv_at hl 3 rfl) ?_
  obtain ⟨o_6, hc_5, hrun⟩ := mox_s rfl hrun
  have hP := hP.sub (ws' := ([] ++ ((cR k ard srd_3) ++ (cH k ah aw adr aim ard asc ath awl alo atr sh)))) [1, 2, 0] rfl
  have hD := hD.sub (ws' := ([] ++ ((cR k ard srd_3) ++ (cH k ah aw adr aim ard asc ath awl alo atr sh)))) [1, 2, 0] (by decide) rfl
  refine cXV [] (cR k ard srd_3) (cH k ah aw adr aim ard asc ath awl alo atr sh) (As := [.int p2, .int p3]) (ci := 3) ⟨hx, hb, hml, hown, hts⟩ hOK hz hS hA hP hD (mtX3_number l D k ard Z hOK hlt hTh _ _ _ o_6 hc_5) (kX3_number hts q1232 rfl rfl ⟨Nat.le_of_ble_eq_true rfl, Nat.le_of_ble_eq_true rfl⟩) 0 rfl rfl rfl hl.1 rfl (lv_room (Nat.le_of_ble_eq_true rfl)) ⟨Nat.le_of_ble_eq_true rfl, Nat.le_of_ble_eq_true rfl⟩ dX1_after_11 (fun E_ w_ ce_ q9_ H locs hq hP hD hS hce hcv hcl => ?_) (fun r_ w_ H locs hq hP hD hS => ?_)
  · obtain ⟨srd_7x, rfl, rfl⟩ := hq
    have hrun := moxl hrun
    cases hrun
    have hP := hP.sub (ws' := ((cH k ah aw adr aim ard asc ath awl alo atr sh) ++ (cR k ard srd_7x))) [2, 0, 1] rfl
    have hD := hD.sub (ws' := ((cH k ah aw adr aim ard asc ath awl alo atr sh) ++ (cR k ard srd_7x))) [2, 0, 1] (by decide) rfl
    exact zout hnoh hlocks hce hcv hcl hP hD hS ⟨_, rfl, rfl⟩ (Nat.le_of_ble_eq_true rfl) (Nat.le_of_ble_eq_true rfl)
  obtain ⟨r_8, srd_7, rfl, rfl, rfl⟩ := hq
  have hrun := moxr hrun
  have hP := hP.sub (ws' := ((cH k ah aw adr aim ard asc ath awl alo atr sh) ++ (cR k ard srd_7))) [2, 0, 1] rfl
  have hD := hD.sub (ws' := ((cH k ah aw adr aim ard asc ath awl alo atr sh) ++ (cR k ard srd_7))) [2, 0, 1] (by decide) rfl
  cases hrun
  refine W.widen (k := 11) (n := 1612) (Nat.le_of_ble_eq_true rfl) (Nat.le_of_ble_eq_true rfl) ?_
  exact vx_ret (retW_i hx hb hr hlocks hP hD hS ⟨_, _, rfl, rfl, rfl⟩ dX1_after_14)
def rX1_aGuest : Room := { frames := 9, cells := 41, slots := 6430, locals := 404 }
noncomputable def fX1_aGuest (sh : Kp) (su : Wd) (srd : Rd) : Option ((String × Wd × Rd) ⊕ (Wd × Rd)) :=
  if (wd_guests su) = (8 : Int32) then
    some (.inl ("SaturdayKeep$Wrong", (su, srd)))
  else
    mox (fX1_after sh srd 9 (0 : Int32) (10 : Int32)) (fun E_6 => some (.inl (E_6.1, (su, (E_6.2))))) fun q_7 =>
    mck (wd_guests su) 8 <|
    mlt (wd_s_wish su (upd (wd_wish su) (Int32.toNatClampNeg (wd_guests su)) (q_7.1))) fun su_9 =>
    mox (fX1_after sh (q_7.2) 10 (0 : Int32) (7 : Int32)) (fun E_14 => some (.inl (E_14.1, (su_9, (E_14.2))))) fun q_15 =>
    mck (wd_guests su) 8 <|
    mlt (wd_s_room su_9 (upd (wd_room su_9) (Int32.toNatClampNeg (wd_guests su)) (q_15.1))) fun su_17 =>
    mo2 (fX3_passes (q_15.2) 11) fun r_20 srd_19 =>
    mjn (fun (y_23 : Int32) (srd_24 : Rd) =>
    mck (wd_guests su) 8 <|
    mlt (wd_s_doubt su_17 (upd (wd_doubt su_17) (Int32.toNatClampNeg (wd_guests su)) y_23)) fun su_27 =>
    mo2 (fX3_passes srd_24 12) fun r_30 srd_29 =>
    mck (wd_guests su) 8 <|
    mlt (wd_s_key su_27 (updb (wd_key su_27) (Int32.toNatClampNeg (wd_guests su)) r_30)) fun su_32 =>
    mck (wd_guests su) 8 <|
    mlt (wd_s_here su_32 (updb (wd_here su_32) (Int32.toNatClampNeg (wd_guests su)) true)) fun su_34 =>
    mlt ((wd_guests su_34) + (1 : Int32)) fun v_35 =>
    mlt (wd_s_guests su_34 v_35) fun su_36 =>
    some (.inr (su_36, srd_29))) fun K_25 =>
    if r_20 = true then
      mox (fX3_number srd_19 (0 : Int32) (99 : Int32)) (fun E_41 => some (.inl (E_41.1, (su_17, (E_41.2))))) fun q_42 =>
      K_25 (q_42.1) (q_42.2)
    else
      K_25 (0 : Int32) srd_19
theorem kX1_aGuest {R : Room} {s : State} {args : Array Value} {own : String} {idx mc ms : Nat} {rm : Room} (hts : ∀ w ∈ lw_all, w.before args s = true) (hl : Cond.methodLink own idx yX1_aGuest ∈ lw_all) (hrc : rm.cells = mc) (hrs : rm.slots = ms) (hR : rm.frames + 1 ≤ R.frames ∧ 8 + (4 + 11) + rm.locals ≤ R.locals) : CallW R s args own RX1 idx yX1_aGuest cX1_aGuest 4 none (ws_ yX1_aGuest cX1_aGuest 4 none) rm mc ms 1 :=
  cwV 1 hts (lw_V hl q1221 qs17 q107 q1222) rfl hrc hrs (by decide +kernel) hR
set_option maxHeartbeats 4000000 in
set_option maxRecDepth 100000 in
theorem mtX1_aGuest (l : Launch) (D : va_G) (k : Nat → ClassId) (ah : Nat → Nat) (aw : Nat → Nat) (adr : Nat → Nat) (aim : Nat → Nat) (ard : Nat → Nat) (asc : Nat → Nat) (ath : Nat → Nat) (awl : Nat → Nat) (alo : Nat → Nat) (atr : Nat → Nat) (au : Nat → Nat) (Z : zZ) (hOK : zOK D zCl (zTys k) Z) (hlt : l.stackTraces = false) (hTh : zTh Z) {adK adV : Nat → Nat} (hStr : zStr Z adK adV) (hPv : zPv Z) (sh : Kp) (su : Wd) (srd : Rd) (o : (String × Wd × Rd) ⊕ (Wd × Rd)) (hrun : fX1_aGuest sh su srd = some o) :
    CtX l yX1_aGuest cX1_aGuest 4 none rX1_aGuest Z D zCl ((cH k ah aw adr aim ard asc ath awl alo atr sh) ++ ((cW k au su) ++ (cR k ard srd))) [.ref (ah 0), .ref (au 0)] (fun r' w' => ∃ (ou : Wd) (ord : Rd), o = .inr (ou, ord) ∧ r' = none ∧ w' = ((cH k ah aw adr aim ard asc ath awl alo atr sh) ++ ((cW k au ou) ++ (cR k ard ord)))) (fun E' w' => ∃ (ou : Wd) (ord : Rd), o = .inl (E', (ou, ord)) ∧ w' = ((cH k ah aw adr aim ard asc ath awl alo atr sh) ++ ((cW k au ou) ++ (cR k ard ord)))) 41 6430 := by
  refine CtX.of (by decide) (Nat.le_of_ble_eq_true rfl) ?_
  intro p e s m args below meth c A hE hnoh hA hP hD hS hz ls hl
  obtain ⟨hx, hb, hr, hml, hown, hts, hlocks, hname⟩ := hE
  have hown : s.vm.findClass RX1 = some m.cls := hown
  have hK := hOK.1 _ _ _ hz
  have hN := hOK.2.1 _ _ _ hz
  have hl : lv_has ls 4 [(0, .ref (ah 0)), (1, .ref (au 0))] := hl
  unfold fX1_aGuest at hrun
  refine lv_aload_n hx hb dX1_aGuest_0 rfl (lv_at hl 0 rfl) ?_
  refine va_get (ci := 1) (v := .ref (ard 0)) (C := RX1) (T := TX1) (N := 10) hx hb hts in_X1 hown hK hP 0 rfl rfl 4 (by decide) (hts _ q375) (fun _ h9 => h9) rfl dX1_aGuest_1 ?_
  refine lv_astore_n (lv' := [(2, .ref (ard 0)), (0, .ref (ah 0)), (1, .ref (au 0))]) hx hb dX1_aGuest_4 rfl hl (by decide) rfl (fun ls hl => ?_)
  refine lv_aload_n hx hb dX1_aGuest_5 rfl (lv_at hl 2 rfl) ?_
  refine va_getN (ci := 2) (v := .int (wd_guests su)) (C := RX2) (T := TX2) (N := 21) hx hb hts in_X2 hown hK hP 1 rfl rfl 1 (by decide) (va_Nw.use rfl (hN _ (zN_of q166 rfl))) (fun _ h9 => h9) rfl dX1_aGuest_6 ?_
  refine lv_istore_n (lv' := [(3, .int (wd_guests su)), (2, .ref (ard 0)), (0, .ref (ah 0)), (1, .ref (au 0))]) hx hb dX1_aGuest_9 rfl hl (by decide) rfl (fun ls hl => ?_)
  refine lv_iload_n hx hb dX1_aGuest_10 rfl (lv_at hl 0 rfl) ?_
  refine lv_bipush (v := (8 : Int32)) hx hb dX1_aGuest_11 (by decide) ?_
  refine lv_icmp_ne (tgt := 21) hx hb dX1_aGuest_13 (by decide) (fun c_1 => ?_) (fun c_1 => ?_)
  · have hrun := mif_n c_1 hrun
    refine lv_aload_n hx hb dX1_aGuest_21 rfl (lv_at hl 3 rfl) ?_
    refine va_getN (ci := 2) (v := .ref (au 3)) (C := RX2) (T := TX2) (N := 21) hx hb hts in_X2 hown hK hP 1 rfl rfl 14 (by decide) (va_Nw.use rfl (hN _ (zN_of q194 rfl))) (fun _ h9 => h9) rfl dX1_aGuest_22 ?_
    refine lv_iload_n hx hb dX1_aGuest_25 rfl (lv_at hl 0 rfl) ?_
    refine lv_aload_n hx hb dX1_aGuest_26 rfl (lv_at hl 2 rfl) ?_
    refine va_ldcS hx hb hown (sr9 hStr hz) dX1_aGuest_27 ?_
    refine lv_iconst (v := (0 : Int32)) hx hb dX1_aGuest_29 (by decide) ?_
    refine lv_bipush (v := (10 : Int32)) hx hb dX1_aGuest_30 (by decide) ?_
    obtain ⟨o_3, hc_2, hrun⟩ := mox_s rfl hrun
    have hP := hP.sub (ws' := ([] ++ (((cH k ah aw adr aim ard asc ath awl alo atr sh) ++ (cR k ard srd)) ++ (cW k au su)))) [0, 10, 11, 1, 2, 3, 4, 5, 6, 7, 8, 9] rfl
    have hD := hD.sub (ws' := ([] ++ (((cH k ah aw adr aim ard asc ath awl alo atr sh) ++ (cR k ard srd)) ++ (cW k au su)))) [0, 10, 11, 1, 2, 3, 4, 5, 6, 7, 8, 9] (by decide) rfl
    refine cXV [] ((cH k ah aw adr aim ard asc ath awl alo atr sh) ++ (cR k ard srd)) (cW k au su) (As := [.ref (adK 9), .int (0 : Int32), .int (10 : Int32)]) (ci := 1) ⟨hx, hb, hml, hown, hts⟩ hOK hz hS hA hP hD (mtX1_after l D k ah aw adr aim ard asc ath awl alo atr Z hOK hlt hTh hStr hPv _ _ _ _ _ o_3 hc_2) (kX1_after hts q1224 rfl rfl ⟨Nat.le_of_ble_eq_true rfl, Nat.le_of_ble_eq_true rfl⟩) 0 rfl rfl rfl hl.1 rfl (lv_room (Nat.le_of_ble_eq_true rfl)) ⟨Nat.le_of_ble_eq_true rfl, Nat.le_of_ble_eq_true rfl⟩ dX1_aGuest_32 (fun E_ w_ ce_ q9_ H locs hq hP hD hS hce hcv hcl => ?_) (fun r_ w_ H locs hq hP hD hS => ?_)
    · obtain ⟨srd_4x, rfl, rfl⟩ := hq
      have hrun := moxl hrun
      cases hrun
      have hP := hP.sub (ws' := ((cH k ah aw adr aim ard asc ath awl alo atr sh) ++ ((cW k au su) ++ (cR k ard srd_4x)))) [0, 3, 4, 5, 6, 7, 8, 9, 10, 11, 1, 2] rfl
      have hD := hD.sub (ws' := ((cH k ah aw adr aim ard asc ath awl alo atr sh) ++ ((cW k au su) ++ (cR k ard srd_4x)))) [0, 3, 4, 5, 6, 7, 8, 9, 10, 11, 1, 2] (by decide) rfl
      exact zout hnoh hlocks hce hcv hcl hP hD hS ⟨_, _, rfl, rfl⟩ (Nat.le_of_ble_eq_true rfl) (Nat.le_of_ble_eq_true rfl)
    obtain ⟨r_5, srd_4, rfl, rfl, rfl⟩ := hq
    have hrun := moxr hrun
    have hP := hP.sub (ws' := ((cH k ah aw adr aim ard asc ath awl alo atr sh) ++ ((cW k au su) ++ (cR k ard srd_4)))) [0, 3, 4, 5, 6, 7, 8, 9, 10, 11, 1, 2] rfl
    have hD := hD.sub (ws' := ((cH k ah aw adr aim ard asc ath awl alo atr sh) ++ ((cW k au su) ++ (cR k ard srd_4)))) [0, 3, 4, 5, 6, 7, 8, 9, 10, 11, 1, 2] (by decide) rfl
    obtain ⟨hb_8, hrun⟩ := mck_s rfl hrun
    refine va_iast hx hb hK hP hD hS 4 0 rfl rfl hb_8 dX1_aGuest_35 (fun H locs hP hD hS => ?_)
    have hP : va_P D zCl ((cH k ah aw adr aim ard asc ath awl alo atr sh) ++ ((cW k au (wd_s_wish su (upd (wd_wish su) (Int32.toNatClampNeg (wd_guests su)) r_5))) ++ (cR k ard srd_4))) _ := hP
    have hD : va_D A ((cH k ah aw adr aim ard asc ath awl alo atr sh) ++ ((cW k au (wd_s_wish su (upd (wd_wish su) (Int32.toNatClampNeg (wd_guests su)) r_5))) ++ (cR k ard srd_4))) := hD
    obtain ⟨su_9, esu_9⟩ : ∃ z : Wd, z = (wd_s_wish su (upd (wd_wish su) (Int32.toNatClampNeg (wd_guests su)) r_5)) := ⟨_, rfl⟩
    rw [← esu_9] at hP hD
    have hrun := mlt_s hrun su_9 esu_9
    refine lv_aload_n hx hb dX1_aGuest_36 rfl (lv_at hl 3 rfl) ?_
    refine va_getN (ci := 2) (v := .ref (au 2)) (C := RX2) (T := TX2) (N := 21) hx hb hts in_X2 hown hK hP 1 rfl rfl 13 (by decide) (va_Nw.use rfl (hN _ (zN_of q192 rfl))) (fun _ h9 => h9) rfl dX1_aGuest_37 ?_
    refine lv_iload_n hx hb dX1_aGuest_40 rfl (lv_at hl 0 rfl) ?_
    refine lv_aload_n hx hb dX1_aGuest_41 rfl (lv_at hl 2 rfl) ?_
    refine va_ldcS hx hb hown (sr10 hStr hz) dX1_aGuest_42 ?_
    refine lv_iconst (v := (0 : Int32)) hx hb dX1_aGuest_44 (by decide) ?_
    refine lv_bipush (v := (7 : Int32)) hx hb dX1_aGuest_45 (by decide) ?_
    obtain ⟨o_11, hc_10, hrun⟩ := mox_s rfl hrun
    have hP := hP.sub (ws' := ([] ++ (((cH k ah aw adr aim ard asc ath awl alo atr sh) ++ (cR k ard srd_4)) ++ (cW k au su_9)))) [0, 10, 11, 1, 2, 3, 4, 5, 6, 7, 8, 9] rfl
    have hD := hD.sub (ws' := ([] ++ (((cH k ah aw adr aim ard asc ath awl alo atr sh) ++ (cR k ard srd_4)) ++ (cW k au su_9)))) [0, 10, 11, 1, 2, 3, 4, 5, 6, 7, 8, 9] (by decide) rfl
    refine cXV [] ((cH k ah aw adr aim ard asc ath awl alo atr sh) ++ (cR k ard srd_4)) (cW k au su_9) (As := [.ref (adK 10), .int (0 : Int32), .int (7 : Int32)]) (ci := 1) ⟨hx, hb, hml, hown, hts⟩ hOK hz hS hA hP hD (mtX1_after l D k ah aw adr aim ard asc ath awl alo atr Z hOK hlt hTh hStr hPv _ _ _ _ _ o_11 hc_10) (kX1_after hts q1224 rfl rfl ⟨Nat.le_of_ble_eq_true rfl, Nat.le_of_ble_eq_true rfl⟩) 0 rfl rfl rfl hl.1 rfl (lv_room (Nat.le_of_ble_eq_true rfl)) ⟨Nat.le_of_ble_eq_true rfl, Nat.le_of_ble_eq_true rfl⟩ dX1_aGuest_47 (fun E_ w_ ce_ q9_ H locs hq hP hD hS hce hcv hcl => ?_) (fun r_ w_ H locs hq hP hD hS => ?_)
    · obtain ⟨srd_12x, rfl, rfl⟩ := hq
      have hrun := moxl hrun
      cases hrun
      have hP := hP.sub (ws' := ((cH k ah aw adr aim ard asc ath awl alo atr sh) ++ ((cW k au su_9) ++ (cR k ard srd_12x)))) [0, 3, 4, 5, 6, 7, 8, 9, 10, 11, 1, 2] rfl
      have hD := hD.sub (ws' := ((cH k ah aw adr aim ard asc ath awl alo atr sh) ++ ((cW k au su_9) ++ (cR k ard srd_12x)))) [0, 3, 4, 5, 6, 7, 8, 9, 10, 11, 1, 2] (by decide) rfl
      exact zout hnoh hlocks hce hcv hcl hP hD hS ⟨_, _, rfl, rfl⟩ (Nat.le_of_ble_eq_true rfl) (Nat.le_of_ble_eq_true rfl)
    obtain ⟨r_13, srd_12, rfl, rfl, rfl⟩ := hq
    have hrun := moxr hrun
    have hP := hP.sub (ws' := ((cH k ah aw adr aim ard asc ath awl alo atr sh) ++ ((cW k au su_9) ++ (cR k ard srd_12)))) [0, 3, 4, 5, 6, 7, 8, 9, 10, 11, 1, 2] rfl
    have hD := hD.sub (ws' := ((cH k ah aw adr aim ard asc ath awl alo atr sh) ++ ((cW k au su_9) ++ (cR k ard srd_12)))) [0, 3, 4, 5, 6, 7, 8, 9, 10, 11, 1, 2] (by decide) rfl
    obtain ⟨hb_16, hrun⟩ := mck_s rfl hrun
    refine va_iast hx hb hK hP hD hS 3 0 rfl rfl hb_16 dX1_aGuest_50 (fun H locs hP hD hS => ?_)
    have hP : va_P D zCl ((cH k ah aw adr aim ard asc ath awl alo atr sh) ++ ((cW k au (wd_s_room su_9 (upd (wd_room su_9) (Int32.toNatClampNeg (wd_guests su)) r_13))) ++ (cR k ard srd_12))) _ := hP
    have hD : va_D A ((cH k ah aw adr aim ard asc ath awl alo atr sh) ++ ((cW k au (wd_s_room su_9 (upd (wd_room su_9) (Int32.toNatClampNeg (wd_guests su)) r_13))) ++ (cR k ard srd_12))) := hD
    obtain ⟨su_17, esu_17⟩ : ∃ z : Wd, z = (wd_s_room su_9 (upd (wd_room su_9) (Int32.toNatClampNeg (wd_guests su)) r_13)) := ⟨_, rfl⟩
    rw [← esu_17] at hP hD
    have hrun := mlt_s hrun su_17 esu_17
    refine lv_aload_n hx hb dX1_aGuest_51 rfl (lv_at hl 3 rfl) ?_
    refine va_getN (ci := 2) (v := .ref (au 4)) (C := RX2) (T := TX2) (N := 21) hx hb hts in_X2 hown hK hP 1 rfl rfl 15 (by decide) (va_Nw.use rfl (hN _ (zN_of q196 rfl))) (fun _ h9 => h9) rfl dX1_aGuest_52 ?_
    refine lv_iload_n hx hb dX1_aGuest_55 rfl (lv_at hl 0 rfl) ?_
    refine lv_aload_n hx hb dX1_aGuest_56 rfl (lv_at hl 1 rfl) ?_
    refine va_ldcS hx hb hown (sr11 hStr hz) dX1_aGuest_57 ?_
    obtain ⟨r_20, srd_19, hc_18, hrun⟩ := mo2_s rfl hrun
    have hP := hP.sub (ws' := ((cR k ard srd_12) ++ ((cH k ah aw adr aim ard asc ath awl alo atr sh) ++ (cW k au su_17)))) [10, 11, 0, 1, 2, 3, 4, 5, 6, 7, 8, 9] rfl
    have hD := hD.sub (ws' := ((cR k ard srd_12) ++ ((cH k ah aw adr aim ard asc ath awl alo atr sh) ++ (cW k au su_17)))) [10, 11, 0, 1, 2, 3, 4, 5, 6, 7, 8, 9] (by decide) rfl
    refine cWV [] (cR k ard srd_12) ((cH k ah aw adr aim ard asc ath awl alo atr sh) ++ (cW k au su_17)) (As := [.ref (adK 11)]) (ci := 3) ⟨hx, hb, hml, hown, hts⟩ hOK hz hS hA hP hD (mtX3_passesM l D k ard Z hOK hStr hPv _ _ _ _ hc_18) (kX3_passes hts q1243 rfl rfl ⟨Nat.le_of_ble_eq_true rfl, Nat.le_of_ble_eq_true rfl⟩) 0 rfl rfl rfl hl.1 rfl (lv_room (Nat.le_of_ble_eq_true rfl)) ⟨Nat.le_of_ble_eq_true rfl, Nat.le_of_ble_eq_true rfl⟩ dX1_aGuest_59 (fun r_ w_ H locs hq hP hD hS => ?_)
    obtain ⟨rfl, rfl⟩ := hq
    have hP := hP.sub (ws' := ((cH k ah aw adr aim ard asc ath awl alo atr sh) ++ ((cW k au su_17) ++ (cR k ard srd_19)))) [2, 3, 4, 5, 6, 7, 8, 9, 10, 11, 0, 1] rfl
    have hD := hD.sub (ws' := ((cH k ah aw adr aim ard asc ath awl alo atr sh) ++ ((cW k au su_17) ++ (cR k ard srd_19)))) [2, 3, 4, 5, 6, 7, 8, 9, 10, 11, 0, 1] (by decide) rfl
    obtain ⟨K_25, hK_25, hrun⟩ := mjn_s hrun
    have hj_22 : ∀ (y_23 : Int32) (srd_24 : Rd), ∀ (H : Heap) (locs : List Loc), va_P D zCl ((cH k ah aw adr aim ard asc ath awl alo atr sh) ++ ((cW k au su_17) ++ (cR k ard srd_24))) H → va_D A ((cH k ah aw adr aim ard asc ath awl alo atr sh) ++ ((cW k au su_17) ++ (cR k ard srd_24))) → va_S A s.heap H locs → ∀ ls : Array Slot, lv_has ls 4 [(1, .ref (au 0)), (2, .ref (ard 0)), (3, .int (wd_guests su))] → K_25 y_23 srd_24 = some o → W p l e rX1_aGuest s m args below meth c H locs 32 4830 (vx_MQ below (QWr (fun r' w' => ∃ (ou : Wd) (ord : Rd), o = .inr (ou, ord) ∧ r' = none ∧ w' = ((cH k ah aw adr aim ard asc ath awl alo atr sh) ++ ((cW k au ou) ++ (cR k ard ord)))) D zCl A) (QXr (fun E' w' => ∃ (ou : Wd) (ord : Rd), o = .inl (E', (ou, ord)) ∧ w' = ((cH k ah aw adr aim ard asc ath awl alo atr sh) ++ ((cW k au ou) ++ (cR k ard ord)))) D zCl A) args s 41 6430 A) (F0 m 76 ls [.int y_23, .int (wd_guests su), .ref (au 4)]) := by
      intro y_23 srd_24 H locs hP hD hS ls hl hrun
      rw [hK_25] at hrun
      obtain ⟨hb_26, hrun⟩ := mck_s rfl hrun
      refine va_iast hx hb hK hP hD hS 5 0 rfl rfl hb_26 dX1_aGuest_76 (fun H locs hP hD hS => ?_)
      have hP : va_P D zCl ((cH k ah aw adr aim ard asc ath awl alo atr sh) ++ ((cW k au (wd_s_doubt su_17 (upd (wd_doubt su_17) (Int32.toNatClampNeg (wd_guests su)) y_23))) ++ (cR k ard srd_24))) _ := hP
      have hD : va_D A ((cH k ah aw adr aim ard asc ath awl alo atr sh) ++ ((cW k au (wd_s_doubt su_17 (upd (wd_doubt su_17) (Int32.toNatClampNeg (wd_guests su)) y_23))) ++ (cR k ard srd_24))) := hD
      obtain ⟨su_27, esu_27⟩ : ∃ z : Wd, z = (wd_s_doubt su_17 (upd (wd_doubt su_17) (Int32.toNatClampNeg (wd_guests su)) y_23)) := ⟨_, rfl⟩
      rw [← esu_27] at hP hD
      have hrun := mlt_s hrun su_27 esu_27
      refine lv_aload_n hx hb dX1_aGuest_77 rfl (lv_at hl 0 rfl) ?_
      refine va_getN (ci := 2) (v := .ref (au 5)) (C := RX2) (T := TX2) (N := 21) hx hb hts in_X2 hown hK hP 1 rfl rfl 16 (by decide) (va_Nw.use rfl (hN _ (zN_of q199 rfl))) (fun _ h9 => h9) rfl dX1_aGuest_78 ?_
      refine lv_iload_n hx hb dX1_aGuest_81 rfl (lv_at hl 2 rfl) ?_
      refine lv_aload_n hx hb dX1_aGuest_82 rfl (lv_at hl 1 rfl) ?_
      refine va_ldcS hx hb hown (sr12 hStr hz) dX1_aGuest_83 ?_
      obtain ⟨r_30, srd_29, hc_28, hrun⟩ := mo2_s rfl hrun
      have hP := hP.sub (ws' := ((cR k ard srd_24) ++ ((cH k ah aw adr aim ard asc ath awl alo atr sh) ++ (cW k au su_27)))) [10, 11, 0, 1, 2, 3, 4, 5, 6, 7, 8, 9] rfl
      have hD := hD.sub (ws' := ((cR k ard srd_24) ++ ((cH k ah aw adr aim ard asc ath awl alo atr sh) ++ (cW k au su_27)))) [10, 11, 0, 1, 2, 3, 4, 5, 6, 7, 8, 9] (by decide) rfl
      refine cWV [] (cR k ard srd_24) ((cH k ah aw adr aim ard asc ath awl alo atr sh) ++ (cW k au su_27)) (As := [.ref (adK 12)]) (ci := 3) ⟨hx, hb, hml, hown, hts⟩ hOK hz hS hA hP hD (mtX3_passesM l D k ard Z hOK hStr hPv _ _ _ _ hc_28) (kX3_passes hts q1243 rfl rfl ⟨Nat.le_of_ble_eq_true rfl, Nat.le_of_ble_eq_true rfl⟩) 0 rfl rfl rfl hl.1 rfl (lv_room (Nat.le_of_ble_eq_true rfl)) ⟨Nat.le_of_ble_eq_true rfl, Nat.le_of_ble_eq_true rfl⟩ dX1_aGuest_85 (fun r_ w_ H locs hq hP hD hS => ?_)
      obtain ⟨rfl, rfl⟩ := hq
      have hP := hP.sub (ws' := ((cH k ah aw adr aim ard asc ath awl alo atr sh) ++ ((cW k au su_27) ++ (cR k ard srd_29)))) [2, 3, 4, 5, 6, 7, 8, 9, 10, 11, 0, 1] rfl
      have hD := hD.sub (ws' := ((cH k ah aw adr aim ard asc ath awl alo atr sh) ++ ((cW k au su_27) ++ (cR k ard srd_29)))) [2, 3, 4, 5, 6, 7, 8, 9, 10, 11, 0, 1] (by decide) rfl
      obtain ⟨hb_31, hrun⟩ := mck_s rfl hrun
      refine va_zast (x := bz r_30) hx hb hK hP hD hS 6 1 rfl rfl hb_31 dX1_aGuest_88 (fun H locs hP hD hS => ?_)
      rw [bz_upd] at hP hD
      have hP : va_P D zCl ((cH k ah aw adr aim ard asc ath awl alo atr sh) ++ ((cW k au (wd_s_key su_27 (updb (wd_key su_27) (Int32.toNatClampNeg (wd_guests su)) r_30))) ++ (cR k ard srd_29))) _ := hP
      have hD : va_D A ((cH k ah aw adr aim ard asc ath awl alo atr sh) ++ ((cW k au (wd_s_key su_27 (updb (wd_key su_27) (Int32.toNatClampNeg (wd_guests su)) r_30))) ++ (cR k ard srd_29))) := hD
      obtain ⟨su_32, esu_32⟩ : ∃ z : Wd, z = (wd_s_key su_27 (updb (wd_key su_27) (Int32.toNatClampNeg (wd_guests su)) r_30)) := ⟨_, rfl⟩
      rw [← esu_32] at hP hD
      have hrun := mlt_s hrun su_32 esu_32
      refine lv_aload_n hx hb dX1_aGuest_89 rfl (lv_at hl 0 rfl) ?_
      refine va_getN (ci := 2) (v := .ref (au 6)) (C := RX2) (T := TX2) (N := 21) hx hb hts in_X2 hown hK hP 1 rfl rfl 17 (by decide) (va_Nw.use rfl (hN _ (zN_of q202 rfl))) (fun _ h9 => h9) rfl dX1_aGuest_90 ?_
      refine lv_iload_n hx hb dX1_aGuest_93 rfl (lv_at hl 2 rfl) ?_
      refine lv_iconst (v := (1 : Int32)) hx hb dX1_aGuest_94 (by decide) ?_
      obtain ⟨hb_33, hrun⟩ := mck_s rfl hrun
      refine va_zast (x := bz true) hx hb hK hP hD hS 7 1 rfl rfl hb_33 dX1_aGuest_95 (fun H locs hP hD hS => ?_)
      rw [bz_upd] at hP hD
      have hP : va_P D zCl ((cH k ah aw adr aim ard asc ath awl alo atr sh) ++ ((cW k au (wd_s_here su_32 (updb (wd_here su_32) (Int32.toNatClampNeg (wd_guests su)) true))) ++ (cR k ard srd_29))) _ := hP
      have hD : va_D A ((cH k ah aw adr aim ard asc ath awl alo atr sh) ++ ((cW k au (wd_s_here su_32 (updb (wd_here su_32) (Int32.toNatClampNeg (wd_guests su)) true))) ++ (cR k ard srd_29))) := hD
      obtain ⟨su_34, esu_34⟩ : ∃ z : Wd, z = (wd_s_here su_32 (updb (wd_here su_32) (Int32.toNatClampNeg (wd_guests su)) true)) := ⟨_, rfl⟩
      rw [← esu_34] at hP hD
      have hrun := mlt_s hrun su_34 esu_34
      refine lv_aload_n hx hb dX1_aGuest_96 rfl (lv_at hl 0 rfl) ?_
      refine lv_dup hx hb dX1_aGuest_97 rfl ?_
      refine va_getN (ci := 2) (v := .int (wd_guests su_34)) (C := RX2) (T := TX2) (N := 21) hx hb hts in_X2 hown hK hP 1 rfl rfl 1 (by decide) (va_Nw.use rfl (hN _ (zN_of q166 rfl))) (fun _ h9 => h9) rfl dX1_aGuest_98 ?_
      refine lv_iconst (v := (1 : Int32)) hx hb dX1_aGuest_101 (by decide) ?_
      refine lv_iadd hx hb dX1_aGuest_102 ?_
      refine lv_topi (fun v_35 ev_35 => ?_)
      have hrun := mlt_s hrun v_35 ev_35
      refine va_putN (ci := 2) (v := .int v_35) (ty := tyX2 1) (C := RX2) (T := TX2) (N := 21) hx hb hts in_X2 tyX2 tyX2_ok nmX2 hown hK hP hD hS 1 rfl rfl 1 (by decide) (va_Nw.use rfl (hN _ (zN_of q166 rfl))) (fun _ h9 => h9) rfl (tyX2_ok 1 (by decide)) rfl rfl (Nat.le_of_ble_eq_true rfl) dX1_aGuest_103 (fun H locs hP hD hS => ?_)
      have hP : va_P D zCl ((cH k ah aw adr aim ard asc ath awl alo atr sh) ++ ((cW k au (wd_s_guests su_34 v_35)) ++ (cR k ard srd_29))) _ := hP
      have hD : va_D A ((cH k ah aw adr aim ard asc ath awl alo atr sh) ++ ((cW k au (wd_s_guests su_34 v_35)) ++ (cR k ard srd_29))) := hD
      obtain ⟨su_36, esu_36⟩ : ∃ z : Wd, z = (wd_s_guests su_34 v_35) := ⟨_, rfl⟩
      rw [← esu_36] at hP hD
      have hrun := mlt_s hrun su_36 esu_36
      cases hrun
      refine W.widen (k := 41) (n := 6430) (Nat.le_of_ble_eq_true rfl) (Nat.le_of_ble_eq_true rfl) ?_
      exact vx_ret (retW_v hx hb hr hlocks hP hD hS ⟨_, _, rfl, rfl, rfl⟩ dX1_aGuest_106)
    refine lv_if_eq (tgt := 75) hx hb dX1_aGuest_62 (by decide) (fun c_21 => ?_) (fun c_21 => ?_)
    · have hrun := mif_n (bz_z c_21) hrun
      refine lv_iconst (v := (0 : Int32)) hx hb dX1_aGuest_75 (by decide) ?_
      refine W.widen (k := 32) (n := 4830) (Nat.le_of_ble_eq_true rfl) (Nat.le_of_ble_eq_true rfl) ?_
      exact hj_22 (0 : Int32) srd_19 _ _ hP hD hS ls (lv_sub hl [3, 1, 0] rfl) hrun
    have hrun := mif_p (bz_nz c_21) hrun
    refine lv_aload_n hx hb dX1_aGuest_65 rfl (lv_at hl 1 rfl) ?_
    refine lv_iconst (v := (0 : Int32)) hx hb dX1_aGuest_66 (by decide) ?_
    refine lv_bipush (v := (99 : Int32)) hx hb dX1_aGuest_67 (by decide) ?_
    obtain ⟨o_38, hc_37, hrun⟩ := mox_s rfl hrun
    have hP := hP.sub (ws' := ([] ++ ((cR k ard srd_19) ++ ((cH k ah aw adr aim ard asc ath awl alo atr sh) ++ (cW k au su_17))))) [10, 11, 0, 1, 2, 3, 4, 5, 6, 7, 8, 9] rfl
    have hD := hD.sub (ws' := ([] ++ ((cR k ard srd_19) ++ ((cH k ah aw adr aim ard asc ath awl alo atr sh) ++ (cW k au su_17))))) [10, 11, 0, 1, 2, 3, 4, 5, 6, 7, 8, 9] (by decide) rfl
    refine cXV [] (cR k ard srd_19) ((cH k ah aw adr aim ard asc ath awl alo atr sh) ++ (cW k au su_17)) (As := [.int (0 : Int32), .int (99 : Int32)]) (ci := 3) ⟨hx, hb, hml, hown, hts⟩ hOK hz hS hA hP hD (mtX3_number l D k ard Z hOK hlt hTh _ _ _ o_38 hc_37) (kX3_number hts q1232 rfl rfl ⟨Nat.le_of_ble_eq_true rfl, Nat.le_of_ble_eq_true rfl⟩) 0 rfl rfl rfl hl.1 rfl (lv_room (Nat.le_of_ble_eq_true rfl)) ⟨Nat.le_of_ble_eq_true rfl, Nat.le_of_ble_eq_true rfl⟩ dX1_aGuest_69 (fun E_ w_ ce_ q9_ H locs hq hP hD hS hce hcv hcl => ?_) (fun r_ w_ H locs hq hP hD hS => ?_)
    · obtain ⟨srd_39x, rfl, rfl⟩ := hq
      have hrun := moxl hrun
      cases hrun
      have hP := hP.sub (ws' := ((cH k ah aw adr aim ard asc ath awl alo atr sh) ++ ((cW k au su_17) ++ (cR k ard srd_39x)))) [2, 3, 4, 5, 6, 7, 8, 9, 10, 11, 0, 1] rfl
      have hD := hD.sub (ws' := ((cH k ah aw adr aim ard asc ath awl alo atr sh) ++ ((cW k au su_17) ++ (cR k ard srd_39x)))) [2, 3, 4, 5, 6, 7, 8, 9, 10, 11, 0, 1] (by decide) rfl
      exact zout hnoh hlocks hce hcv hcl hP hD hS ⟨_, _, rfl, rfl⟩ (Nat.le_of_ble_eq_true rfl) (Nat.le_of_ble_eq_true rfl)
    obtain ⟨r_40, srd_39, rfl, rfl, rfl⟩ := hq
    have hrun := moxr hrun
    have hP := hP.sub (ws' := ((cH k ah aw adr aim ard asc ath awl alo atr sh) ++ ((cW k au su_17) ++ (cR k ard srd_39)))) [2, 3, 4, 5, 6, 7, 8, 9, 10, 11, 0, 1] rfl
    have hD := hD.sub (ws' := ((cH k ah aw adr aim ard asc ath awl alo atr sh) ++ ((cW k au su_17) ++ (cR k ard srd_39)))) [2, 3, 4, 5, 6, 7, 8, 9, 10, 11, 0, 1] (by decide) rfl
    refine lv_goto (tgt := 76) hx hb dX1_aGuest_72 (by decide) ?_
    exact hj_22 r_40 srd_39 _ _ hP hD hS ls (lv_sub hl [3, 1, 0] rfl) hrun
  have hrun := mif_p c_1 hrun
  refine lv_aload_n hx hb dX1_aGuest_16 rfl (lv_at hl 1 rfl) ?_
  cases hrun
  have hP : va_P D zCl (((cH k ah aw adr aim ard asc ath awl alo atr sh) ++ (cW k au su)) ++ ((cR k ard srd) ++ [])) _ := hP
  have hD : va_D A (((cH k ah aw adr aim ard asc ath awl alo atr sh) ++ (cW k au su)) ++ ((cR k ard srd) ++ [])) := hD
  refine cWV ((cH k ah aw adr aim ard asc ath awl alo atr sh) ++ (cW k au su)) (cR k ard srd) [] (As := []) (ci := 3) ⟨hx, hb, hml, hown, hts⟩ hOK hz hS hA hP hD (mtX3_wrongR l D k Z hOK hTh ard srd) (kX3_wrong hts q1113 rfl rfl ⟨Nat.le_of_ble_eq_true rfl, Nat.le_of_ble_eq_true rfl⟩) 0 rfl rfl rfl hl.1 rfl (lv_room (Nat.le_of_ble_eq_true rfl)) ⟨(Nat.le_of_ble_eq_true rfl), (Nat.le_of_ble_eq_true rfl)⟩ dX1_aGuest_17 (fun r_ w_ H locs hq hP hD hS => ?_)
  obtain ⟨qw_, rfl, rfl⟩ := hq
  obtain ⟨ce_, hce_, hcv_, hcl_⟩ := zWr hK hP 12 rfl
  refine vx_athrow hx hb dX1_aGuest_20 ?_
  have hP := hP.sub (ws' := ((cH k ah aw adr aim ard asc ath awl alo atr sh) ++ ((cW k au su) ++ (cR k ard srd)))) [0, 1, 2, 3, 4, 5, 6, 7, 8, 9, 10, 11] rfl
  have hD := hD.sub (ws' := ((cH k ah aw adr aim ard asc ath awl alo atr sh) ++ ((cW k au su) ++ (cR k ard srd)))) [0, 1, 2, 3, 4, 5, 6, 7, 8, 9, 10, 11] (by decide) rfl
  exact zout hnoh hlocks hce_ hcv_ hcl_ hP hD hS ⟨_, _, rfl, rfl⟩ (Nat.le_of_ble_eq_true rfl) (Nat.le_of_ble_eq_true rfl)
