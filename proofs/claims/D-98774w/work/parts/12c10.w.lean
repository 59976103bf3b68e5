/-! walks: X1_lodge, X2_sees, X1_locked, X1_mutual -/
def rX1_lodge : Room := { frames := 4, cells := 0, slots := 0, locals := 91 }
noncomputable def fX1_lodge (sh : Kp) (sw : Wd) (slo : Lo) (p1 : Int32) : Option (Int32 × Lo) :=
  if p1 = (-1 : Int32) then
    mob (fX5_is slo sh sw) fun slo_3 =>
    mob (fX5_isNone slo_3) fun r_5 =>
    if r_5 = true then
      some ((-1 : Int32), slo_3)
    else
      if p1 = (-1 : Int32) then
        some (((lo_least slo_3) 0), slo_3)
      else
        mob (fX5_roomOf slo_3 sh sw p1) fun r_9 =>
        some (r_9, slo_3)
  else
    mob (fX2_hereOnes sw) fun r_11 =>
    mob (fJ16_bitCount r_11) fun r_13 =>
    mob (fX1_in p1 (0 : Int32) (r_13 - (1 : Int32))) fun r_15 =>
    if r_15 = true then
      mob (fX5_is slo sh sw) fun slo_18 =>
      mob (fX5_isNone slo_18) fun r_20 =>
      if r_20 = true then
        some ((-1 : Int32), slo_18)
      else
        if p1 = (-1 : Int32) then
          some (((lo_least slo_18) 0), slo_18)
        else
          mob (fX5_roomOf slo_18 sh sw p1) fun r_24 =>
          some (r_24, slo_18)
    else
      some ((-1 : Int32), slo)
theorem kX1_lodge {R : Room} {s : State} {args : Array Value} {own : String} {idx mc ms : Nat} {rm : Room} (hts : ∀ w ∈ lw_all, w.before args s = true) (hl : Cond.methodLink own idx yX1_lodge ∈ lw_all) (hrc : rm.cells = mc) (hrs : rm.slots = ms) (hR : rm.frames + 1 ≤ R.frames ∧ 8 + (2 + 11) + rm.locals ≤ R.locals) : CallW R s args own RX1 idx yX1_lodge cX1_lodge 2 (some .int) (ws_ yX1_lodge cX1_lodge 2 (some .int)) rm mc ms 1 :=
  cwV 1 hts (lw_V hl q640 q641 q107 q642) rfl hrc hrs (by decide +kernel) hR
set_option maxHeartbeats 4000000 in
set_option maxRecDepth 100000 in
theorem mtX1_lodge (l : Launch) (D : va_G) (k : Nat → ClassId) (ah : Nat → Nat) (aw : Nat → Nat) (adr : Nat → Nat) (aim : Nat → Nat) (ard : Nat → Nat) (asc : Nat → Nat) (ath : Nat → Nat) (awl : Nat → Nat) (alo : Nat → Nat) (atr : Nat → Nat) (Z : zZ) (hOK : zOK D zCl (zTys k) Z) (sh : Kp) (sw : Wd) (slo : Lo) (p1 : Int32) (r : Int32) (olo : Lo) (hrun : fX1_lodge sh sw slo p1 = some (r, olo)) :
    CtW l yX1_lodge cX1_lodge 2 (some .int) rX1_lodge Z D zCl ((cH k ah aw adr aim ard asc ath awl alo atr sh) ++ ((cW k aw sw) ++ (cL k alo (ah 0) slo))) [.ref (ah 0), .int p1] (fun r' w' => r' = (some (.int r)) ∧ w' = ((cH k ah aw adr aim ard asc ath awl alo atr sh) ++ ((cW k aw sw) ++ (cL k alo (ah 0) olo)))) 0 0 := by
  refine CtW.of (by decide) (Nat.le_of_ble_eq_true rfl) ?_
  intro p e s m args below meth c A hE hA hP hD hS hz ls hl
  obtain ⟨hx, hb, hr, hml, hown, hts, hlocks, hname⟩ := hE
  have hown : s.vm.findClass RX1 = some m.cls := hown
  have hK := hOK.1 _ _ _ hz
  have hN := hOK.2.1 _ _ _ hz
  have hl : lv_has ls 2 [(0, .ref (ah 0)), (1, .int p1)] := hl
  unfold fX1_lodge at hrun
  refine lv_iload_n hx hb dX1_lodge_0 rfl (lv_at hl 1 rfl) ?_
  refine lv_iconst (v := (-1 : Int32)) hx hb dX1_lodge_1 (by decide) ?_
  refine lv_icmp_eq (tgt := 27) hx hb dX1_lodge_2 (by decide) (fun c_1 => ?_) (fun c_1 => ?_)
  · have hrun := mif_p c_1 hrun
    refine lv_aload_n hx hb dX1_lodge_27 rfl (lv_at hl 0 rfl) ?_
    refine va_get (ci := 1) (v := .ref (alo 0)) (C := RX1) (T := TX1) (N := 10) hx hb hts in_X1 hown hK hP 0 rfl rfl 8 (by decide) (hts _ q379) (fun _ h9 => h9) rfl dX1_lodge_28 ?_
    obtain ⟨slo_3, hc_2, hrun⟩ := mob_s rfl hrun
    have hP := hP.sub (ws' := ((cL k alo (ah 0) slo) ++ ((cH k ah aw adr aim ard asc ath awl alo atr sh) ++ (cW k aw sw)))) [10, 11, 0, 1, 2, 3, 4, 5, 6, 7, 8, 9] rfl
    have hD := hD.sub (ws' := ((cL k alo (ah 0) slo) ++ ((cH k ah aw adr aim ard asc ath awl alo atr sh) ++ (cW k aw sw)))) [10, 11, 0, 1, 2, 3, 4, 5, 6, 7, 8, 9] (by decide) rfl
    refine cWV0 (As := []) (ci := 5) ⟨hx, hb, hml, hown, hts⟩ hOK hz hS hA hP hD (mtX5_is l D k ah alo aw adr aim ard asc ath awl atr Z hOK _ _ _ _ hc_2) (kX5_is hts q650 rfl rfl ⟨Nat.le_of_ble_eq_true rfl, Nat.le_of_ble_eq_true rfl⟩) 0 rfl rfl rfl hl.1 rfl (lv_room (Nat.le_of_ble_eq_true rfl)) ⟨Nat.le_of_ble_eq_true rfl, Nat.le_of_ble_eq_true rfl⟩ dX1_lodge_31 (fun r_ w_ H locs hq hP hD hS => ?_)
    obtain ⟨rfl, rfl⟩ := hq
    have hP := hP.sub (ws' := ((cH k ah aw adr aim ard asc ath awl alo atr sh) ++ ((cW k aw sw) ++ (cL k alo (ah 0) slo_3)))) [2, 3, 4, 5, 6, 7, 8, 9, 10, 11, 0, 1] rfl
    have hD := hD.sub (ws' := ((cH k ah aw adr aim ard asc ath awl alo atr sh) ++ ((cW k aw sw) ++ (cL k alo (ah 0) slo_3)))) [2, 3, 4, 5, 6, 7, 8, 9, 10, 11, 0, 1] (by decide) rfl
    refine lv_pop hx hb dX1_lodge_34 rfl ?_
    refine lv_aload_n hx hb dX1_lodge_35 rfl (lv_at hl 0 rfl) ?_
    refine va_get (ci := 1) (v := .ref (alo 0)) (C := RX1) (T := TX1) (N := 10) hx hb hts in_X1 hown hK hP 0 rfl rfl 8 (by decide) (hts _ q379) (fun _ h9 => h9) rfl dX1_lodge_36 ?_
    obtain ⟨r_5, hc_4, hrun⟩ := mob_s rfl hrun
    refine cRV (As := []) (ci := 5) ⟨hx, hb, hml, hown, hts⟩ hOK hz hS (hP.sub (ws' := (cL k alo (ah 0) slo_3)) [10, 11] rfl) (mtX5_isNone l D k ah alo Z hOK _ _ hc_4) (kX5_isNone hts q674 rfl rfl ⟨Nat.le_of_ble_eq_true rfl, Nat.le_of_ble_eq_true rfl⟩) 0 rfl rfl rfl hl.1 rfl (lv_room (Nat.le_of_ble_eq_true rfl)) ⟨Nat.le_of_ble_eq_true rfl, Nat.le_of_ble_eq_true rfl⟩ dX1_lodge_39 ?_
    refine lv_if_eq (tgt := 49) hx hb dX1_lodge_42 (by decide) (fun c_6 => ?_) (fun c_6 => ?_)
    · have hrun := mif_n (bz_z c_6) hrun
      refine lv_iload_n hx hb dX1_lodge_49 rfl (lv_at hl 1 rfl) ?_
      refine lv_iconst (v := (-1 : Int32)) hx hb dX1_lodge_50 (by decide) ?_
      refine lv_icmp_ne (tgt := 66) hx hb dX1_lodge_51 (by decide) (fun c_7 => ?_) (fun c_7 => ?_)
      · have hrun := mif_n c_7 hrun
        refine lv_aload_n hx hb dX1_lodge_66 rfl (lv_at hl 0 rfl) ?_
        refine va_get (ci := 1) (v := .ref (alo 0)) (C := RX1) (T := TX1) (N := 10) hx hb hts in_X1 hown hK hP 0 rfl rfl 8 (by decide) (hts _ q379) (fun _ h9 => h9) rfl dX1_lodge_67 ?_
        refine lv_iload_n hx hb dX1_lodge_70 rfl (lv_at hl 1 rfl) ?_
        obtain ⟨r_9, hc_8, hrun⟩ := mob_s rfl hrun
        refine cRV (As := [.int p1]) (ci := 5) ⟨hx, hb, hml, hown, hts⟩ hOK hz hS (hP.sub (ws' := ((cL k alo (ah 0) slo_3) ++ ((cH k ah aw adr aim ard asc ath awl alo atr sh) ++ (cW k aw sw)))) [10, 11, 0, 1, 2, 3, 4, 5, 6, 7, 8, 9] rfl) (mtX5_roomOf l D k ah alo aw adr aim ard asc ath awl atr Z hOK _ _ _ _ _ hc_8) (kX5_roomOf hts q678 rfl rfl ⟨Nat.le_of_ble_eq_true rfl, Nat.le_of_ble_eq_true rfl⟩) 0 rfl rfl rfl hl.1 rfl (lv_room (Nat.le_of_ble_eq_true rfl)) ⟨Nat.le_of_ble_eq_true rfl, Nat.le_of_ble_eq_true rfl⟩ dX1_lodge_71 ?_
        cases hrun
        exact retW_i hx hb hr hlocks hP hD hS ⟨rfl, rfl⟩ dX1_lodge_74
      have hrun := mif_p c_7 hrun
      refine lv_aload_n hx hb dX1_lodge_54 rfl (lv_at hl 0 rfl) ?_
      refine va_get (ci := 1) (v := .ref (alo 0)) (C := RX1) (T := TX1) (N := 10) hx hb hts in_X1 hown hK hP 0 rfl rfl 8 (by decide) (hts _ q379) (fun _ h9 => h9) rfl dX1_lodge_55 ?_
      refine va_getN (ci := 5) (v := .ref (alo 1)) (C := RX5) (T := TX5) (N := 2) hx hb hts in_X5 hown hK hP 10 rfl rfl 0 (by decide) (va_Nw.use rfl (hN _ (zN_of q363 rfl))) (fun _ h9 => h9) rfl dX1_lodge_58 ?_
      refine lv_iconst (v := (0 : Int32)) hx hb dX1_lodge_61 (by decide) ?_
      refine va_ialdk (k := 0) hx hb hK hP 11 0 rfl rfl rfl (show ¬ _ from by decide) dX1_lodge_62 ?_
      refine lv_goto (tgt := 74) hx hb dX1_lodge_63 (by decide) ?_
      cases hrun
      exact retW_i hx hb hr hlocks hP hD hS ⟨rfl, rfl⟩ dX1_lodge_74
    have hrun := mif_p (bz_nz c_6) hrun
    refine lv_iconst (v := (-1 : Int32)) hx hb dX1_lodge_45 (by decide) ?_
    refine lv_goto (tgt := 74) hx hb dX1_lodge_46 (by decide) ?_
    cases hrun
    exact retW_i hx hb hr hlocks hP hD hS ⟨rfl, rfl⟩ dX1_lodge_74
  have hrun := mif_n c_1 hrun
  refine lv_iload_n hx hb dX1_lodge_5 rfl (lv_at hl 1 rfl) ?_
  refine lv_iconst (v := (0 : Int32)) hx hb dX1_lodge_6 (by decide) ?_
  refine lv_aload_n hx hb dX1_lodge_7 rfl (lv_at hl 0 rfl) ?_
  refine va_get (ci := 1) (v := .ref (aw 0)) (C := RX1) (T := TX1) (N := 10) hx hb hts in_X1 hown hK hP 0 rfl rfl 0 (by decide) (hts _ q370) (fun _ h9 => h9) rfl dX1_lodge_8 ?_
  obtain ⟨r_11, hc_10, hrun⟩ := mob_s rfl hrun
  refine cRV (As := []) (ci := 2) ⟨hx, hb, hml, hown, hts⟩ hOK hz hS (hP.sub (ws' := (cW k aw sw)) [1, 2, 3, 4, 5, 6, 7, 8, 9] rfl) (mtX2_hereOnes l D k aw Z hOK _ _ hc_10) (kX2_hereOnes hts q643 rfl rfl ⟨Nat.le_of_ble_eq_true rfl, Nat.le_of_ble_eq_true rfl⟩) 0 rfl rfl rfl hl.1 rfl (lv_room (Nat.le_of_ble_eq_true rfl)) ⟨Nat.le_of_ble_eq_true rfl, Nat.le_of_ble_eq_true rfl⟩ dX1_lodge_11 ?_
  obtain ⟨r_13, hc_12, hrun⟩ := mob_s rfl hrun
  refine cRS (ws := []) (As := [.int r_11]) ⟨hx, hb, hml, hown, hts⟩ hOK hz hS zP0 (mtJ16_bitCount l D Z hOK _ _ hc_12) (kJ16_bitCount hts q456 rfl rfl ⟨Nat.le_of_ble_eq_true rfl, Nat.le_of_ble_eq_true rfl⟩) rfl hl.1 rfl (lv_room (Nat.le_of_ble_eq_true rfl)) ⟨Nat.le_of_ble_eq_true rfl, Nat.le_of_ble_eq_true rfl⟩ dX1_lodge_14 ?_
  refine lv_iconst (v := (1 : Int32)) hx hb dX1_lodge_17 (by decide) ?_
  refine lv_isub hx hb dX1_lodge_18 ?_
  obtain ⟨r_15, hc_14, hrun⟩ := mob_s rfl hrun
  refine cRS (ws := []) (As := [.int p1, .int (0 : Int32), .int (r_13 - (1 : Int32))]) ⟨hx, hb, hml, hown, hts⟩ hOK hz hS zP0 (mtX1_in l D Z hOK _ _ _ _ hc_14) (kX1_in hts q647 rfl rfl ⟨Nat.le_of_ble_eq_true rfl, Nat.le_of_ble_eq_true rfl⟩) rfl hl.1 rfl (lv_room (Nat.le_of_ble_eq_true rfl)) ⟨Nat.le_of_ble_eq_true rfl, Nat.le_of_ble_eq_true rfl⟩ dX1_lodge_19 ?_
  refine lv_if_ne (tgt := 27) hx hb dX1_lodge_22 (by decide) (fun c_16 => ?_) (fun c_16 => ?_)
  · have hrun := mif_p (bz_nz c_16) hrun
    refine lv_aload_n hx hb dX1_lodge_27 rfl (lv_at hl 0 rfl) ?_
    refine va_get (ci := 1) (v := .ref (alo 0)) (C := RX1) (T := TX1) (N := 10) hx hb hts in_X1 hown hK hP 0 rfl rfl 8 (by decide) (hts _ q379) (fun _ h9 => h9) rfl dX1_lodge_28 ?_
    obtain ⟨slo_18, hc_17, hrun⟩ := mob_s rfl hrun
    have hP := hP.sub (ws' := ((cL k alo (ah 0) slo) ++ ((cH k ah aw adr aim ard asc ath awl alo atr sh) ++ (cW k aw sw)))) [10, 11, 0, 1, 2, 3, 4, 5, 6, 7, 8, 9] rfl
    have hD := hD.sub (ws' := ((cL k alo (ah 0) slo) ++ ((cH k ah aw adr aim ard asc ath awl alo atr sh) ++ (cW k aw sw)))) [10, 11, 0, 1, 2, 3, 4, 5, 6, 7, 8, 9] (by decide) rfl
    refine cWV0 (As := []) (ci := 5) ⟨hx, hb, hml, hown, hts⟩ hOK hz hS hA hP hD (mtX5_is l D k ah alo aw adr aim ard asc ath awl atr Z hOK _ _ _ _ hc_17) (kX5_is hts q650 rfl rfl ⟨Nat.le_of_ble_eq_true rfl, Nat.le_of_ble_eq_true rfl⟩) 0 rfl rfl rfl hl.1 rfl (lv_room (Nat.le_of_ble_eq_true rfl)) ⟨Nat.le_of_ble_eq_true rfl, Nat.le_of_ble_eq_true rfl⟩ dX1_lodge_31 (fun r_ w_ H locs hq hP hD hS => ?_)
    obtain ⟨rfl, rfl⟩ := hq
    have hP := hP.sub (ws' := ((cH k ah aw adr aim ard asc ath awl alo atr sh) ++ ((cW k aw sw) ++ (cL k alo (ah 0) slo_18)))) [2, 3, 4, 5, 6, 7, 8, 9, 10, 11, 0, 1] rfl
    have hD := hD.sub (ws' := ((cH k ah aw adr aim ard asc ath awl alo atr sh) ++ ((cW k aw sw) ++ (cL k alo (ah 0) slo_18)))) [2, 3, 4, 5, 6, 7, 8, 9, 10, 11, 0, 1] (by decide) rfl
    refine lv_pop hx hb dX1_lodge_34 rfl ?_
    refine lv_aload_n hx hb dX1_lodge_35 rfl (lv_at hl 0 rfl) ?_
    refine va_get (ci := 1) (v := .ref (alo 0)) (C := RX1) (T := TX1) (N := 10) hx hb hts in_X1 hown hK hP 0 rfl rfl 8 (by decide) (hts _ q379) (fun _ h9 => h9) rfl dX1_lodge_36 ?_
    obtain ⟨r_20, hc_19, hrun⟩ := mob_s rfl hrun
    refine cRV (As := []) (ci := 5) ⟨hx, hb, hml, hown, hts⟩ hOK hz hS (hP.sub (ws' := (cL k alo (ah 0) slo_18)) [10, 11] rfl) (mtX5_isNone l D k ah alo Z hOK _ _ hc_19) (kX5_isNone hts q674 rfl rfl ⟨Nat.le_of_ble_eq_true rfl, Nat.le_of_ble_eq_true rfl⟩) 0 rfl rfl rfl hl.1 rfl (lv_room (Nat.le_of_ble_eq_true rfl)) ⟨Nat.le_of_ble_eq_true rfl, Nat.le_of_ble_eq_true rfl⟩ dX1_lodge_39 ?_
    refine lv_if_eq (tgt := 49) hx hb dX1_lodge_42 (by decide) (fun c_21 => ?_) (fun c_21 => ?_)
    · have hrun := mif_n (bz_z c_21) hrun
      refine lv_iload_n hx hb dX1_lodge_49 rfl (lv_at hl 1 rfl) ?_
      refine lv_iconst (v := (-1 : Int32)) hx hb dX1_lodge_50 (by decide) ?_
      refine lv_icmp_ne (tgt := 66) hx hb dX1_lodge_51 (by decide) (fun c_22 => ?_) (fun c_22 => ?_)
      · have hrun := mif_n c_22 hrun
        refine lv_aload_n hx hb dX1_lodge_66 rfl (lv_at hl 0 rfl) ?_
        refine va_get (ci := 1) (v := .ref (alo 0)) (C := RX1) (T := TX1) (N := 10) hx hb hts in_X1 hown hK hP 0 rfl rfl 8 (by decide) (hts _ q379) (fun _ h9 => h9) rfl dX1_lodge_67 ?_
        refine lv_iload_n hx hb dX1_lodge_70 rfl (lv_at hl 1 rfl) ?_
        obtain ⟨r_24, hc_23, hrun⟩ := mob_s rfl hrun
        refine cRV (As := [.int p1]) (ci := 5) ⟨hx, hb, hml, hown, hts⟩ hOK hz hS (hP.sub (ws' := ((cL k alo (ah 0) slo_18) ++ ((cH k ah aw adr aim ard asc ath awl alo atr sh) ++ (cW k aw sw)))) [10, 11, 0, 1, 2, 3, 4, 5, 6, 7, 8, 9] rfl) (mtX5_roomOf l D k ah alo aw adr aim ard asc ath awl atr Z hOK _ _ _ _ _ hc_23) (kX5_roomOf hts q678 rfl rfl ⟨Nat.le_of_ble_eq_true rfl, Nat.le_of_ble_eq_true rfl⟩) 0 rfl rfl rfl hl.1 rfl (lv_room (Nat.le_of_ble_eq_true rfl)) ⟨Nat.le_of_ble_eq_true rfl, Nat.le_of_ble_eq_true rfl⟩ dX1_lodge_71 ?_
        cases hrun
        exact retW_i hx hb hr hlocks hP hD hS ⟨rfl, rfl⟩ dX1_lodge_74
      have hrun := mif_p c_22 hrun
      refine lv_aload_n hx hb dX1_lodge_54 rfl (lv_at hl 0 rfl) ?_
      refine va_get (ci := 1) (v := .ref (alo 0)) (C := RX1) (T := TX1) (N := 10) hx hb hts in_X1 hown hK hP 0 rfl rfl 8 (by decide) (hts _ q379) (fun _ h9 => h9) rfl dX1_lodge_55 ?_
      refine va_getN (ci := 5) (v := .ref (alo 1)) (C := RX5) (T := TX5) (N := 2) hx hb hts in_X5 hown hK hP 10 rfl rfl 0 (by decide) (va_Nw.use rfl (hN _ (zN_of q363 rfl))) (fun _ h9 => h9) rfl dX1_lodge_58 ?_
      refine lv_iconst (v := (0 : Int32)) hx hb dX1_lodge_61 (by decide) ?_
      refine va_ialdk (k := 0) hx hb hK hP 11 0 rfl rfl rfl (show ¬ _ from by decide) dX1_lodge_62 ?_
      refine lv_goto (tgt := 74) hx hb dX1_lodge_63 (by decide) ?_
      cases hrun
      exact retW_i hx hb hr hlocks hP hD hS ⟨rfl, rfl⟩ dX1_lodge_74
    have hrun := mif_p (bz_nz c_21) hrun
    refine lv_iconst (v := (-1 : Int32)) hx hb dX1_lodge_45 (by decide) ?_
    refine lv_goto (tgt := 74) hx hb dX1_lodge_46 (by decide) ?_
    cases hrun
    exact retW_i hx hb hr hlocks hP hD hS ⟨rfl, rfl⟩ dX1_lodge_74
  have hrun := mif_n (bz_z c_16) hrun
  refine lv_iconst (v := (-1 : Int32)) hx hb dX1_lodge_25 (by decide) ?_
  cases hrun
  exact retW_i hx hb hr hlocks hP hD hS ⟨rfl, rfl⟩ dX1_lodge_26
def rX2_sees : Room := { frames := 1, cells := 0, slots := 0, locals := 22 }
noncomputable def fX2_sees (su : Wd) (p1 : Int32) (p2 : Int32) : Option (Bool) :=
  mck p1 8 <|
  mck p1 8 <|
  mob (fX2_spies su ((wd_room su) (Int32.toNatClampNeg p1)) ((wd_key su) (Int32.toNatClampNeg p1))) fun r_4 =>
  mob (fX1_has r_4 p2) fun r_6 =>
  some r_6
theorem kX2_sees {R : Room} {s : State} {args : Array Value} {own : String} {idx mc ms : Nat} {rm : Room} (hts : ∀ w ∈ lw_all, w.before args s = true) (hl : Cond.methodLink own idx yX2_sees ∈ lw_all) (hrc : rm.cells = mc) (hrs : rm.slots = ms) (hR : rm.frames + 1 ≤ R.frames ∧ 8 + (3 + 11) + rm.locals ≤ R.locals) : CallW R s args own RX2 idx yX2_sees cX2_sees 3 (some .boolean) (ws_ yX2_sees cX2_sees 3 (some .boolean)) rm mc ms 2 :=
  cwV 2 hts (lw_V hl q572 q573 q108 q574) rfl hrc hrs (by decide +kernel) hR
set_option maxHeartbeats 4000000 in
set_option maxRecDepth 100000 in
theorem mtX2_sees (l : Launch) (D : va_G) (k : Nat → ClassId) (au : Nat → Nat) (Z : zZ) (hOK : zOK D zCl (zTys k) Z) (su : Wd) (p1 : Int32) (p2 : Int32) (r : Bool) (hrun : fX2_sees su p1 p2 = some r) :
    CtR l yX2_sees cX2_sees 3 (some .boolean) rX2_sees Z D zCl (cW k au su) [.ref (au 0), .int p1, .int p2] (some (.int (bz r))) := by
  refine CtR.of (by decide) (Nat.le_of_ble_eq_true rfl) ?_
  intro p e s m args below meth c hE hP hz ls hl
  obtain ⟨hx, hb, hr, hml, hown, hts, hlocks, hname⟩ := hE
  have hown : s.vm.findClass RX2 = some m.cls := hown
  have hK := hOK.1 _ _ _ hz
  have hN := hOK.2.1 _ _ _ hz
  have hl : lv_has ls 3 [(0, .ref (au 0)), (1, .int p1), (2, .int p2)] := hl
  unfold fX2_sees at hrun
  refine lv_aload_n hx hb dX2_sees_0 rfl (lv_at hl 0 rfl) ?_
  refine lv_aload_n hx hb dX2_sees_1 rfl (lv_at hl 0 rfl) ?_
  refine va_get (ci := 2) (v := .ref (au 2)) (C := RX2) (T := TX2) (N := 21) hx hb hts in_X2 hown hK hP 0 rfl rfl 13 (by decide) (hts _ q190) (fun _ h9 => h9) rfl dX2_sees_2 ?_
  refine lv_iload_n hx hb dX2_sees_5 rfl (lv_at hl 1 rfl) ?_
  obtain ⟨hb_1, hrun⟩ := mck_s rfl hrun
  refine va_iald hx hb hK hP 2 0 rfl rfl hb_1 dX2_sees_6 ?_
  refine lv_aload_n hx hb dX2_sees_7 rfl (lv_at hl 0 rfl) ?_
  refine va_get (ci := 2) (v := .ref (au 5)) (C := RX2) (T := TX2) (N := 21) hx hb hts in_X2 hown hK hP 0 rfl rfl 16 (by decide) (hts _ q197) (fun _ h9 => h9) rfl dX2_sees_8 ?_
  refine lv_iload_n hx hb dX2_sees_11 rfl (lv_at hl 1 rfl) ?_
  obtain ⟨hb_2, hrun⟩ := mck_s rfl hrun
  refine va_zald hx hb hK hP 5 1 rfl rfl hb_2 dX2_sees_12 ?_
  obtain ⟨r_4, hc_3, hrun⟩ := mob_s rfl hrun
  refine cRV (As := [.int ((wd_room su) (Int32.toNatClampNeg p1)), .int (bz ((wd_key su) (Int32.toNatClampNeg p1)))]) (ci := 2) ⟨hx, hb, hml, hown, hts⟩ hOK hz va_S.rf hP (mtX2_spies l D k au Z hOK _ _ _ _ hc_3) (kX2_spies hts q575 rfl rfl ⟨Nat.le_of_ble_eq_true rfl, Nat.le_of_ble_eq_true rfl⟩) 0 rfl rfl rfl hl.1 rfl (lv_room (Nat.le_of_ble_eq_true rfl)) ⟨Nat.le_of_ble_eq_true rfl, Nat.le_of_ble_eq_true rfl⟩ dX2_sees_13 ?_
  refine lv_iload_n hx hb dX2_sees_16 rfl (lv_at hl 2 rfl) ?_
  obtain ⟨r_6, hc_5, hrun⟩ := mob_s rfl hrun
  refine cRSN (ws := []) (As := [.int r_4, .int p2]) ⟨hx, hb, hml, hown, hts⟩ hOK hz va_S.rf zP0 (mtX1_has l D Z hOK _ _ _ hc_5) (kX1_hasn hN hts (hN _ (zN_of q579 rfl)) rfl rfl ⟨Nat.le_of_ble_eq_true rfl, Nat.le_of_ble_eq_true rfl⟩) rfl hl.1 rfl (lv_room (Nat.le_of_ble_eq_true rfl)) ⟨Nat.le_of_ble_eq_true rfl, Nat.le_of_ble_eq_true rfl⟩ dX2_sees_17 ?_
  cases hrun
  exact retR_z hx hb hr hlocks rfl dX2_sees_20
def rX1_locked : Room := { frames := 2, cells := 0, slots := 0, locals := 44 }
noncomputable def fX1_locked_L4 (sw : Wd) : Nat → Int32 → Int32 → Option (Int32)
  | 0, _, _ => none
  | n + 1, x1_2, x2_3 =>
    if (wd_guests sw) ≤ x2_3 then
      some x1_2
    else
      mck x2_3 8 <|
      if ((wd_here sw) (Int32.toNatClampNeg x2_3)) = true then
        mob (fX2_sees sw x2_3 (wd_bath sw)) fun r_8 =>
        if r_8 = true then
          mck x2_3 8 <|
          mob (fX2_spies sw ((wd_room sw) (Int32.toNatClampNeg x2_3)) false) fun r_12 =>
          mob (fX1_has r_12 (wd_bath sw)) fun r_14 =>
          if r_14 = true then
            fX1_locked_L4 sw n (x1_2 ||| (0 : Int32)) (x2_3 + (1 : Int32))
          else
            fX1_locked_L4 sw n (x1_2 ||| ((1 : Int32) <<< (x2_3 &&& (31 : Int32)))) (x2_3 + (1 : Int32))
        else
          fX1_locked_L4 sw n (x1_2 ||| (0 : Int32)) (x2_3 + (1 : Int32))
      else
        fX1_locked_L4 sw n (x1_2 ||| (0 : Int32)) (x2_3 + (1 : Int32))
noncomputable def fX1_locked (sh : Kp) (sw : Wd) : Option (Int32) :=
  fX1_locked_L4 sw mFU (0 : Int32) (0 : Int32)
theorem kX1_locked {R : Room} {s : State} {args : Array Value} {own : String} {idx mc ms : Nat} {rm : Room} (hts : ∀ w ∈ lw_all, w.before args s = true) (hl : Cond.methodLink own idx yX1_locked ∈ lw_all) (hrc : rm.cells = mc) (hrs : rm.slots = ms) (hR : rm.frames + 1 ≤ R.frames ∧ 8 + (3 + 11) + rm.locals ≤ R.locals) : CallW R s args own RX1 idx yX1_locked cX1_locked 3 (some .int) (ws_ yX1_locked cX1_locked 3 (some .int)) rm mc ms 0 :=
  cwV 0 hts (lw_V hl q630 q631 q107 q632) rfl hrc hrs (by decide +kernel) hR
set_option maxHeartbeats 4000000 in
set_option maxRecDepth 100000 in
theorem mtX1_locked (l : Launch) (D : va_G) (k : Nat → ClassId) (ah : Nat → Nat) (aw : Nat → Nat) (adr : Nat → Nat) (aim : Nat → Nat) (ard : Nat → Nat) (asc : Nat → Nat) (ath : Nat → Nat) (awl : Nat → Nat) (alo : Nat → Nat) (atr : Nat → Nat) (Z : zZ) (hOK : zOK D zCl (zTys k) Z) (sh : Kp) (sw : Wd) (r : Int32) (hrun : fX1_locked sh sw = some r) :
    CtR l yX1_locked cX1_locked 3 (some .int) rX1_locked Z D zCl ((cH k ah aw adr aim ard asc ath awl alo atr sh) ++ (cW k aw sw)) [.ref (ah 0)] (some (.int r)) := by
  refine CtR.of (by decide) (Nat.le_of_ble_eq_true rfl) ?_
  intro p e s m args below meth c hE hP hz ls hl
  obtain ⟨hx, hb, hr, hml, hown, hts, hlocks, hname⟩ := hE
  have hown : s.vm.findClass RX1 = some m.cls := hown
  have hK := hOK.1 _ _ _ hz
  have hN := hOK.2.1 _ _ _ hz
  have hl : lv_has ls 3 [(0, .ref (ah 0))] := hl
  unfold fX1_locked at hrun
  refine lv_iconst (v := (0 : Int32)) hx hb dX1_locked_0 (by decide) ?_
  refine lv_istore_n (lv' := [(1, .int (0 : Int32)), (0, .ref (ah 0))]) hx hb dX1_locked_1 rfl hl (by decide) rfl (fun ls hl => ?_)
  refine lv_iconst (v := (0 : Int32)) hx hb dX1_locked_2 (by decide) ?_
  refine lv_istore_n (lv' := [(2, .int (0 : Int32)), (1, .int (0 : Int32)), (0, .ref (ah 0))]) hx hb dX1_locked_3 rfl hl (by decide) rfl (fun ls hl => ?_)
  have hL_1 : ∀ n : Nat, ∀ (x1_2 : Int32) (x2_3 : Int32), ∀ ls : Array Slot, lv_has ls 3 [(0, .ref (ah 0)), (1, .int x1_2), (2, .int x2_3)] → fX1_locked_L4 sw n x1_2 x2_3 = some r → W p l e rX1_locked s m args below meth c s.heap [] 0 0 (MQ below (QRr (some (.int r))) args s 0 0 (fun _ => False)) (F0 m 4 ls []) := by
    intro n
    induction n with
    | zero =>
      intro x1_2 x2_3 ls hl hrun
      exact nomatch hrun
    | succ n ih =>
      intro x1_2 x2_3 ls hl hrun
      rw [fX1_locked_L4.eq_2] at hrun
      refine lv_iload_n hx hb dX1_locked_4 rfl (lv_at hl 2 rfl) ?_
      refine lv_aload_n hx hb dX1_locked_5 rfl (lv_at hl 0 rfl) ?_
      refine va_get (ci := 1) (v := .ref (aw 0)) (C := RX1) (T := TX1) (N := 10) hx hb hts in_X1 hown hK hP 0 rfl rfl 0 (by decide) (hts _ q370) (fun _ h9 => h9) rfl dX1_locked_6 ?_
      refine va_getN (ci := 2) (v := .int (wd_guests sw)) (C := RX2) (T := TX2) (N := 21) hx hb hts in_X2 hown hK hP 1 rfl rfl 1 (by decide) (va_Nw.use rfl (hN _ (zN_of q166 rfl))) (fun _ h9 => h9) rfl dX1_locked_9 ?_
      refine lv_icmp_ge (tgt := 91) hx hb dX1_locked_12 (by decide) (fun c_4 => ?_) (fun c_4 => ?_)
      · have hrun := mif_p c_4 hrun
        refine lv_iload_n hx hb dX1_locked_91 rfl (lv_at hl 1 rfl) ?_
        cases hrun
        exact retR_i hx hb hr hlocks rfl dX1_locked_92
      have hrun := mif_n c_4 hrun
      refine lv_iload_n hx hb dX1_locked_15 rfl (lv_at hl 1 rfl) ?_
      refine lv_aload_n hx hb dX1_locked_16 rfl (lv_at hl 0 rfl) ?_
      refine va_get (ci := 1) (v := .ref (aw 0)) (C := RX1) (T := TX1) (N := 10) hx hb hts in_X1 hown hK hP 0 rfl rfl 0 (by decide) (hts _ q370) (fun _ h9 => h9) rfl dX1_locked_17 ?_
      refine va_getN (ci := 2) (v := .ref (aw 6)) (C := RX2) (T := TX2) (N := 21) hx hb hts in_X2 hown hK hP 1 rfl rfl 17 (by decide) (va_Nw.use rfl (hN _ (zN_of q202 rfl))) (fun _ h9 => h9) rfl dX1_locked_20 ?_
      refine lv_iload_n hx hb dX1_locked_23 rfl (lv_at hl 2 rfl) ?_
      obtain ⟨hb_5, hrun⟩ := mck_s rfl hrun
      refine va_zald hx hb hK hP 7 1 rfl rfl hb_5 dX1_locked_24 ?_
      refine lv_if_eq (tgt := 82) hx hb dX1_locked_25 (by decide) (fun c_6 => ?_) (fun c_6 => ?_)
      · have hrun := mif_n (bz_z c_6) hrun
        refine lv_iconst (v := (0 : Int32)) hx hb dX1_locked_82 (by decide) ?_
        refine lv_ior hx hb dX1_locked_83 ?_
        refine lv_istore_n (lv' := [(1, .int (x1_2 ||| (0 : Int32))), (0, .ref (ah 0)), (2, .int x2_3)]) hx hb dX1_locked_84 rfl hl (by decide) rfl (fun ls hl => ?_)
        refine lv_iinc (v := (x2_3 + (1 : Int32))) (lv' := [(2, .int (x2_3 + (1 : Int32))), (1, .int (x1_2 ||| (0 : Int32))), (0, .ref (ah 0))]) hx hb dX1_locked_85 hl (k := 2) rfl rfl (by decide) rfl (fun ls hl => ?_)
        refine lv_goto (tgt := 4) hx hb dX1_locked_88 (by decide) ?_
        exact ih (x1_2 ||| (0 : Int32)) (x2_3 + (1 : Int32)) ls (lv_sub hl [2, 1, 0] rfl) hrun
      have hrun := mif_p (bz_nz c_6) hrun
      refine lv_aload_n hx hb dX1_locked_28 rfl (lv_at hl 0 rfl) ?_
      refine va_get (ci := 1) (v := .ref (aw 0)) (C := RX1) (T := TX1) (N := 10) hx hb hts in_X1 hown hK hP 0 rfl rfl 0 (by decide) (hts _ q370) (fun _ h9 => h9) rfl dX1_locked_29 ?_
      refine lv_iload_n hx hb dX1_locked_32 rfl (lv_at hl 2 rfl) ?_
      refine lv_aload_n hx hb dX1_locked_33 rfl (lv_at hl 0 rfl) ?_
      refine va_get (ci := 1) (v := .ref (aw 0)) (C := RX1) (T := TX1) (N := 10) hx hb hts in_X1 hown hK hP 0 rfl rfl 0 (by decide) (hts _ q370) (fun _ h9 => h9) rfl dX1_locked_34 ?_
      refine va_getN (ci := 2) (v := .int (wd_bath sw)) (C := RX2) (T := TX2) (N := 21) hx hb hts in_X2 hown hK hP 1 rfl rfl 3 (by decide) (va_Nw.use rfl (hN _ (zN_of q171 rfl))) (fun _ h9 => h9) rfl dX1_locked_37 ?_
      obtain ⟨r_8, hc_7, hrun⟩ := mob_s rfl hrun
      refine cRV (As := [.int x2_3, .int (wd_bath sw)]) (ci := 2) ⟨hx, hb, hml, hown, hts⟩ hOK hz va_S.rf (hP.sub (ws' := (cW k aw sw)) [1, 2, 3, 4, 5, 6, 7, 8, 9] rfl) (mtX2_sees l D k aw Z hOK _ _ _ _ hc_7) (kX2_sees hts q633 rfl rfl ⟨Nat.le_of_ble_eq_true rfl, Nat.le_of_ble_eq_true rfl⟩) 0 rfl rfl rfl hl.1 rfl (lv_room (Nat.le_of_ble_eq_true rfl)) ⟨Nat.le_of_ble_eq_true rfl, Nat.le_of_ble_eq_true rfl⟩ dX1_locked_40 ?_
      refine lv_if_eq (tgt := 82) hx hb dX1_locked_43 (by decide) (fun c_9 => ?_) (fun c_9 => ?_)
      · have hrun := mif_n (bz_z c_9) hrun
        refine lv_iconst (v := (0 : Int32)) hx hb dX1_locked_82 (by decide) ?_
        refine lv_ior hx hb dX1_locked_83 ?_
        refine lv_istore_n (lv' := [(1, .int (x1_2 ||| (0 : Int32))), (0, .ref (ah 0)), (2, .int x2_3)]) hx hb dX1_locked_84 rfl hl (by decide) rfl (fun ls hl => ?_)
        refine lv_iinc (v := (x2_3 + (1 : Int32))) (lv' := [(2, .int (x2_3 + (1 : Int32))), (1, .int (x1_2 ||| (0 : Int32))), (0, .ref (ah 0))]) hx hb dX1_locked_85 hl (k := 2) rfl rfl (by decide) rfl (fun ls hl => ?_)
        refine lv_goto (tgt := 4) hx hb dX1_locked_88 (by decide) ?_
        exact ih (x1_2 ||| (0 : Int32)) (x2_3 + (1 : Int32)) ls (lv_sub hl [2, 1, 0] rfl) hrun
      have hrun := mif_p (bz_nz c_9) hrun
      refine lv_aload_n hx hb dX1_locked_46 rfl (lv_at hl 0 rfl) ?_
      refine va_get (ci := 1) (v := .ref (aw 0)) (C := RX1) (T := TX1) (N := 10) hx hb hts in_X1 hown hK hP 0 rfl rfl 0 (by decide) (hts _ q370) (fun _ h9 => h9) rfl dX1_locked_47 ?_
      refine lv_aload_n hx hb dX1_locked_50 rfl (lv_at hl 0 rfl) ?_
      refine va_get (ci := 1) (v := .ref (aw 0)) (C := RX1) (T := TX1) (N := 10) hx hb hts in_X1 hown hK hP 0 rfl rfl 0 (by decide) (hts _ q370) (fun _ h9 => h9) rfl dX1_locked_51 ?_
      refine va_getN (ci := 2) (v := .ref (aw 2)) (C := RX2) (T := TX2) (N := 21) hx hb hts in_X2 hown hK hP 1 rfl rfl 13 (by decide) (va_Nw.use rfl (hN _ (zN_of q192 rfl))) (fun _ h9 => h9) rfl dX1_locked_54 ?_
      refine lv_iload_n hx hb dX1_locked_57 rfl (lv_at hl 2 rfl) ?_
      obtain ⟨hb_10, hrun⟩ := mck_s rfl hrun
      refine va_iald hx hb hK hP 3 0 rfl rfl hb_10 dX1_locked_58 ?_
      refine lv_iconst (v := (0 : Int32)) hx hb dX1_locked_59 (by decide) ?_
      obtain ⟨r_12, hc_11, hrun⟩ := mob_s rfl hrun
      refine cRV (As := [.int ((wd_room sw) (Int32.toNatClampNeg x2_3)), .int (bz false)]) (ci := 2) ⟨hx, hb, hml, hown, hts⟩ hOK hz va_S.rf (hP.sub (ws' := (cW k aw sw)) [1, 2, 3, 4, 5, 6, 7, 8, 9] rfl) (mtX2_spies l D k aw Z hOK _ _ _ _ hc_11) (kX2_spies hts q634 rfl rfl ⟨Nat.le_of_ble_eq_true rfl, Nat.le_of_ble_eq_true rfl⟩) 0 rfl rfl rfl hl.1 rfl (lv_room (Nat.le_of_ble_eq_true rfl)) ⟨Nat.le_of_ble_eq_true rfl, Nat.le_of_ble_eq_true rfl⟩ dX1_locked_60 ?_
      refine lv_aload_n hx hb dX1_locked_63 rfl (lv_at hl 0 rfl) ?_
      refine va_get (ci := 1) (v := .ref (aw 0)) (C := RX1) (T := TX1) (N := 10) hx hb hts in_X1 hown hK hP 0 rfl rfl 0 (by decide) (hts _ q370) (fun _ h9 => h9) rfl dX1_locked_64 ?_
      refine va_getN (ci := 2) (v := .int (wd_bath sw)) (C := RX2) (T := TX2) (N := 21) hx hb hts in_X2 hown hK hP 1 rfl rfl 3 (by decide) (va_Nw.use rfl (hN _ (zN_of q171 rfl))) (fun _ h9 => h9) rfl dX1_locked_67 ?_
      obtain ⟨r_14, hc_13, hrun⟩ := mob_s rfl hrun
      refine cRS (ws := []) (As := [.int r_12, .int (wd_bath sw)]) ⟨hx, hb, hml, hown, hts⟩ hOK hz va_S.rf zP0 (mtX1_has l D Z hOK _ _ _ hc_13) (kX1_has hts q586 rfl rfl ⟨Nat.le_of_ble_eq_true rfl, Nat.le_of_ble_eq_true rfl⟩) rfl hl.1 rfl (lv_room (Nat.le_of_ble_eq_true rfl)) ⟨Nat.le_of_ble_eq_true rfl, Nat.le_of_ble_eq_true rfl⟩ dX1_locked_70 ?_
      refine lv_if_ne (tgt := 82) hx hb dX1_locked_73 (by decide) (fun c_15 => ?_) (fun c_15 => ?_)
      · have hrun := mif_p (bz_nz c_15) hrun
        refine lv_iconst (v := (0 : Int32)) hx hb dX1_locked_82 (by decide) ?_
        refine lv_ior hx hb dX1_locked_83 ?_
        refine lv_istore_n (lv' := [(1, .int (x1_2 ||| (0 : Int32))), (0, .ref (ah 0)), (2, .int x2_3)]) hx hb dX1_locked_84 rfl hl (by decide) rfl (fun ls hl => ?_)
        refine lv_iinc (v := (x2_3 + (1 : Int32))) (lv' := [(2, .int (x2_3 + (1 : Int32))), (1, .int (x1_2 ||| (0 : Int32))), (0, .ref (ah 0))]) hx hb dX1_locked_85 hl (k := 2) rfl rfl (by decide) rfl (fun ls hl => ?_)
        refine lv_goto (tgt := 4) hx hb dX1_locked_88 (by decide) ?_
        exact ih (x1_2 ||| (0 : Int32)) (x2_3 + (1 : Int32)) ls (lv_sub hl [2, 1, 0] rfl) hrun
      have hrun := mif_n (bz_z c_15) hrun
      refine lv_iconst (v := (1 : Int32)) hx hb dX1_locked_76 (by decide) ?_
      refine lv_iload_n hx hb dX1_locked_77 rfl (lv_at hl 2 rfl) ?_
      refine lv_ishl hx hb dX1_locked_78 ?_
      refine lv_goto (tgt := 83) hx hb dX1_locked_79 (by decide) ?_
      refine lv_ior hx hb dX1_locked_83 ?_
      refine lv_istore_n (lv' := [(1, .int (x1_2 ||| ((1 : Int32) <<< (x2_3 &&& (31 : Int32))))), (0, .ref (ah 0)), (2, .int x2_3)]) hx hb dX1_locked_84 rfl hl (by decide) rfl (fun ls hl => ?_)
      refine lv_iinc (v := (x2_3 + (1 : Int32))) (lv' := [(2, .int (x2_3 + (1 : Int32))), (1, .int (x1_2 ||| ((1 : Int32) <<< (x2_3 &&& (31 : Int32))))), (0, .ref (ah 0))]) hx hb dX1_locked_85 hl (k := 2) rfl rfl (by decide) rfl (fun ls hl => ?_)
      refine lv_goto (tgt := 4) hx hb dX1_locked_88 (by decide) ?_
      exact ih (x1_2 ||| ((1 : Int32) <<< (x2_3 &&& (31 : Int32)))) (x2_3 + (1 : Int32)) ls (lv_sub hl [2, 1, 0] rfl) hrun
  exact hL_1 mFU (0 : Int32) (0 : Int32) ls (lv_sub hl [2, 1, 0] rfl) hrun
def rX1_mutual : Room := { frames := 2, cells := 0, slots := 0, locals := 44 }
noncomputable def fX1_mutual_L19 (sw : Wd) (K_7 : Int32 → Option (Int32)) (x2_3 : Int32) : Nat → Int32 → Int32 → Option (Int32)
  | 0, _, _ => none
  | n + 1, x1_9, x3_10 =>
    if (wd_guests sw) ≤ x3_10 then
      K_7 x1_9
    else
      mck x2_3 8 <|
      if ((wd_here sw) (Int32.toNatClampNeg x2_3)) = true then
        mck x3_10 8 <|
        if ((wd_here sw) (Int32.toNatClampNeg x3_10)) = true then
          mck x3_10 8 <|
          mob (fX2_sees sw x2_3 ((wd_room sw) (Int32.toNatClampNeg x3_10))) fun r_18 =>
          if r_18 = true then
            mck x2_3 8 <|
            mob (fX2_sees sw x3_10 ((wd_room sw) (Int32.toNatClampNeg x2_3))) fun r_22 =>
            if r_22 = true then
              fX1_mutual_L19 sw K_7 x2_3 n (x1_9 + (1 : Int32)) (x3_10 + (1 : Int32))
            else
              fX1_mutual_L19 sw K_7 x2_3 n (x1_9 + (0 : Int32)) (x3_10 + (1 : Int32))
          else
            fX1_mutual_L19 sw K_7 x2_3 n (x1_9 + (0 : Int32)) (x3_10 + (1 : Int32))
        else
          fX1_mutual_L19 sw K_7 x2_3 n (x1_9 + (0 : Int32)) (x3_10 + (1 : Int32))
      else
        fX1_mutual_L19 sw K_7 x2_3 n (x1_9 + (0 : Int32)) (x3_10 + (1 : Int32))
noncomputable def fX1_mutual_L4 (sw : Wd) : Nat → Int32 → Int32 → Option (Int32)
  | 0, _, _ => none
  | n + 1, x1_2, x2_3 =>
    if (wd_guests sw) ≤ x2_3 then
      some x1_2
    else
      mjn (fun (x1_6 : Int32) =>
      fX1_mutual_L4 sw n x1_6 (x2_3 + (1 : Int32))) fun K_7 =>
      fX1_mutual_L19 sw K_7 x2_3 mFU x1_2 (x2_3 + (1 : Int32))
noncomputable def fX1_mutual (sh : Kp) (sw : Wd) : Option (Int32) :=
  fX1_mutual_L4 sw mFU (0 : Int32) (0 : Int32)
theorem kX1_mutual {R : Room} {s : State} {args : Array Value} {own : String} {idx mc ms : Nat} {rm : Room} (hts : ∀ w ∈ lw_all, w.before args s = true) (hl : Cond.methodLink own idx yX1_mutual ∈ lw_all) (hrc : rm.cells = mc) (hrs : rm.slots = ms) (hR : rm.frames + 1 ≤ R.frames ∧ 8 + (4 + 11) + rm.locals ≤ R.locals) : CallW R s args own RX1 idx yX1_mutual cX1_mutual 4 (some .int) (ws_ yX1_mutual cX1_mutual 4 (some .int)) rm mc ms 0 :=
  cwV 0 hts (lw_V hl q636 q637 q107 q638) rfl hrc hrs (by decide +kernel) hR
set_option maxHeartbeats 4000000 in
set_option maxRecDepth 100000 in
theorem mtX1_mutual (l : Launch) (D : va_G) (k : Nat → ClassId) (ah : Nat → Nat) (aw : Nat → Nat) (adr : Nat → Nat) (aim : Nat → Nat) (ard : Nat → Nat) (asc : Nat → Nat) (ath : Nat → Nat) (awl : Nat → Nat) (alo : Nat → Nat) (atr : Nat → Nat) (Z : zZ) (hOK : zOK D zCl (zTys k) Z) (sh : Kp) (sw : Wd) (r : Int32) (hrun : fX1_mutual sh sw = some r) :
    CtR l yX1_mutual cX1_mutual 4 (some .int) rX1_mutual Z D zCl ((cH k ah aw adr aim ard asc ath awl alo atr sh) ++ (cW k aw sw)) [.ref (ah 0)] (some (.int r)) := by
  refine CtR.of (by decide) (Nat.le_of_ble_eq_true rfl) ?_
  intro p e s m args below meth c hE hP hz ls hl
  obtain ⟨hx, hb, hr, hml, hown, hts, hlocks, hname⟩ := hE
  have hown : s.vm.findClass RX1 = some m.cls := hown
  have hK := hOK.1 _ _ _ hz
  have hN := hOK.2.1 _ _ _ hz
  have hl : lv_has ls 4 [(0, .ref (ah 0))] := hl
  unfold fX1_mutual at hrun
  refine lv_iconst (v := (0 : Int32)) hx hb dX1_mutual_0 (by decide) ?_
  refine lv_istore_n (lv' := [(1, .int (0 : Int32)), (0, .ref (ah 0))]) hx hb dX1_mutual_1 rfl hl (by decide) rfl (fun ls hl => ?_)
  refine lv_iconst (v := (0 : Int32)) hx hb dX1_mutual_2 (by decide) ?_
  refine lv_istore_n (lv' := [(2, .int (0 : Int32)), (1, .int (0 : Int32)), (0, .ref (ah 0))]) hx hb dX1_mutual_3 rfl hl (by decide) rfl (fun ls hl => ?_)
  have hL_1 : ∀ n : Nat, ∀ (x1_2 : Int32) (x2_3 : Int32), ∀ ls : Array Slot, lv_has ls 4 [(0, .ref (ah 0)), (1, .int x1_2), (2, .int x2_3)] → fX1_mutual_L4 sw n x1_2 x2_3 = some r → W p l e rX1_mutual s m args below meth c s.heap [] 0 0 (MQ below (QRr (some (.int r))) args s 0 0 (fun _ => False)) (F0 m 4 ls []) := by
    intro n
    induction n with
    | zero =>
      intro x1_2 x2_3 ls hl hrun
      exact nomatch hrun
    | succ n ih =>
      intro x1_2 x2_3 ls hl hrun
      rw [fX1_mutual_L4.eq_2] at hrun
      refine lv_iload_n hx hb dX1_mutual_4 rfl (lv_at hl 2 rfl) ?_
      refine lv_aload_n hx hb dX1_mutual_5 rfl (lv_at hl 0 rfl) ?_
      refine va_get (ci := 1) (v := .ref (aw 0)) (C := RX1) (T := TX1) (N := 10) hx hb hts in_X1 hown hK hP 0 rfl rfl 0 (by decide) (hts _ q370) (fun _ h9 => h9) rfl dX1_mutual_6 ?_
      refine va_getN (ci := 2) (v := .int (wd_guests sw)) (C := RX2) (T := TX2) (N := 21) hx hb hts in_X2 hown hK hP 1 rfl rfl 1 (by decide) (va_Nw.use rfl (hN _ (zN_of q166 rfl))) (fun _ h9 => h9) rfl dX1_mutual_9 ?_
      refine lv_icmp_ge (tgt := 114) hx hb dX1_mutual_12 (by decide) (fun c_4 => ?_) (fun c_4 => ?_)
      · have hrun := mif_p c_4 hrun
        refine lv_iload_n hx hb dX1_mutual_114 rfl (lv_at hl 1 rfl) ?_
        cases hrun
        exact retR_i hx hb hr hlocks rfl dX1_mutual_115
      have hrun := mif_n c_4 hrun
      refine lv_iload_n hx hb dX1_mutual_15 rfl (lv_at hl 2 rfl) ?_
      refine lv_iconst (v := (1 : Int32)) hx hb dX1_mutual_16 (by decide) ?_
      refine lv_iadd hx hb dX1_mutual_17 ?_
      refine lv_istore_n (lv' := [(3, .int (x2_3 + (1 : Int32))), (0, .ref (ah 0)), (1, .int x1_2), (2, .int x2_3)]) hx hb dX1_mutual_18 rfl hl (by decide) rfl (fun ls hl => ?_)
      obtain ⟨K_7, hK_7, hrun⟩ := mjn_s hrun
      have hj_5 : ∀ (x1_6 : Int32), ∀ ls : Array Slot, lv_has ls 4 [(0, .ref (ah 0)), (1, .int x1_6), (2, .int x2_3)] → K_7 x1_6 = some r → W p l e rX1_mutual s m args below meth c s.heap [] 0 0 (MQ below (QRr (some (.int r))) args s 0 0 (fun _ => False)) (F0 m 108 ls []) := by
        intro x1_6 ls hl hrun
        rw [hK_7] at hrun
        refine lv_iinc (v := (x2_3 + (1 : Int32))) (lv' := [(2, .int (x2_3 + (1 : Int32))), (0, .ref (ah 0)), (1, .int x1_6)]) hx hb dX1_mutual_108 hl (k := 2) rfl rfl (by decide) rfl (fun ls hl => ?_)
        refine lv_goto (tgt := 4) hx hb dX1_mutual_111 (by decide) ?_
        exact ih x1_6 (x2_3 + (1 : Int32)) ls (lv_sub hl [1, 2, 0] rfl) hrun
      have hL_8 : ∀ n : Nat, ∀ (x1_9 : Int32) (x3_10 : Int32), ∀ ls : Array Slot, lv_has ls 4 [(0, .ref (ah 0)), (1, .int x1_9), (2, .int x2_3), (3, .int x3_10)] → fX1_mutual_L19 sw K_7 x2_3 n x1_9 x3_10 = some r → W p l e rX1_mutual s m args below meth c s.heap [] 0 0 (MQ below (QRr (some (.int r))) args s 0 0 (fun _ => False)) (F0 m 19 ls []) := by
        intro n
        induction n with
        | zero =>
          intro x1_9 x3_10 ls hl hrun
          exact nomatch hrun
        | succ n ih =>
          intro x1_9 x3_10 ls hl hrun
          rw [fX1_mutual_L19.eq_2] at hrun
          refine lv_iload_n hx hb dX1_mutual_19 rfl (lv_at hl 3 rfl) ?_
          refine lv_aload_n hx hb dX1_mutual_20 rfl (lv_at hl 0 rfl) ?_
          refine va_get (ci := 1) (v := .ref (aw 0)) (C := RX1) (T := TX1) (N := 10) hx hb hts in_X1 hown hK hP 0 rfl rfl 0 (by decide) (hts _ q370) (fun _ h9 => h9) rfl dX1_mutual_21 ?_
          refine va_getN (ci := 2) (v := .int (wd_guests sw)) (C := RX2) (T := TX2) (N := 21) hx hb hts in_X2 hown hK hP 1 rfl rfl 1 (by decide) (va_Nw.use rfl (hN _ (zN_of q166 rfl))) (fun _ h9 => h9) rfl dX1_mutual_24 ?_
          refine lv_icmp_ge (tgt := 108) hx hb dX1_mutual_27 (by decide) (fun c_11 => ?_) (fun c_11 => ?_)
          · have hrun := mif_p c_11 hrun
            exact hj_5 x1_9 ls (lv_sub hl [0, 1, 2] rfl) hrun
          have hrun := mif_n c_11 hrun
          refine lv_iload_n hx hb dX1_mutual_30 rfl (lv_at hl 1 rfl) ?_
          refine lv_aload_n hx hb dX1_mutual_31 rfl (lv_at hl 0 rfl) ?_
          refine va_get (ci := 1) (v := .ref (aw 0)) (C := RX1) (T := TX1) (N := 10) hx hb hts in_X1 hown hK hP 0 rfl rfl 0 (by decide) (hts _ q370) (fun _ h9 => h9) rfl dX1_mutual_32 ?_
          refine va_getN (ci := 2) (v := .ref (aw 6)) (C := RX2) (T := TX2) (N := 21) hx hb hts in_X2 hown hK hP 1 rfl rfl 17 (by decide) (va_Nw.use rfl (hN _ (zN_of q202 rfl))) (fun _ h9 => h9) rfl dX1_mutual_35 ?_
          refine lv_iload_n hx hb dX1_mutual_38 rfl (lv_at hl 2 rfl) ?_
          obtain ⟨hb_12, hrun⟩ := mck_s rfl hrun
          refine va_zald hx hb hK hP 7 1 rfl rfl hb_12 dX1_mutual_39 ?_
          refine lv_if_eq (tgt := 99) hx hb dX1_mutual_40 (by decide) (fun c_13 => ?_) (fun c_13 => ?_)
          · have hrun := mif_n (bz_z c_13) hrun
            refine lv_iconst (v := (0 : Int32)) hx hb dX1_mutual_99 (by decide) ?_
            refine lv_iadd hx hb dX1_mutual_100 ?_
            refine lv_istore_n (lv' := [(1, .int (x1_9 + (0 : Int32))), (0, .ref (ah 0)), (2, .int x2_3), (3, .int x3_10)]) hx hb dX1_mutual_101 rfl hl (by decide) rfl (fun ls hl => ?_)
            refine lv_iinc (v := (x3_10 + (1 : Int32))) (lv' := [(3, .int (x3_10 + (1 : Int32))), (1, .int (x1_9 + (0 : Int32))), (0, .ref (ah 0)), (2, .int x2_3)]) hx hb dX1_mutual_102 hl (k := 3) rfl rfl (by decide) rfl (fun ls hl => ?_)
            refine lv_goto (tgt := 19) hx hb dX1_mutual_105 (by decide) ?_
            exact ih (x1_9 + (0 : Int32)) (x3_10 + (1 : Int32)) ls (lv_sub hl [2, 1, 3, 0] rfl) hrun
          have hrun := mif_p (bz_nz c_13) hrun
          refine lv_aload_n hx hb dX1_mutual_43 rfl (lv_at hl 0 rfl) ?_
          refine va_get (ci := 1) (v := .ref (aw 0)) (C := RX1) (T := TX1) (N := 10) hx hb hts in_X1 hown hK hP 0 rfl rfl 0 (by decide) (hts _ q370) (fun _ h9 => h9) rfl dX1_mutual_44 ?_
          refine va_getN (ci := 2) (v := .ref (aw 6)) (C := RX2) (T := TX2) (N := 21) hx hb hts in_X2 hown hK hP 1 rfl rfl 17 (by decide) (va_Nw.use rfl (hN _ (zN_of q202 rfl))) (fun _ h9 => h9) rfl dX1_mutual_47 ?_
          refine lv_iload_n hx hb dX1_mutual_50 rfl (lv_at hl 3 rfl) ?_
          obtain ⟨hb_14, hrun⟩ := mck_s rfl hrun
          refine va_zald hx hb hK hP 7 1 rfl rfl hb_14 dX1_mutual_51 ?_
          refine lv_if_eq (tgt := 99) hx hb dX1_mutual_52 (by decide) (fun c_15 => ?_) (fun c_15 => ?_)
          · have hrun := mif_n (bz_z c_15) hrun
            refine lv_iconst (v := (0 : Int32)) hx hb dX1_mutual_99 (by decide) ?_
            refine lv_iadd hx hb dX1_mutual_100 ?_
            refine lv_istore_n (lv' := [(1, .int (x1_9 + (0 : Int32))), (0, .ref (ah 0)), (2, .int x2_3), (3, .int x3_10)]) hx hb dX1_mutual_101 rfl hl (by decide) rfl (fun ls hl => ?_)
            refine lv_iinc (v := (x3_10 + (1 : Int32))) (lv' := [(3, .int (x3_10 + (1 : Int32))), (1, .int (x1_9 + (0 : Int32))), (0, .ref (ah 0)), (2, .int x2_3)]) hx hb dX1_mutual_102 hl (k := 3) rfl rfl (by decide) rfl (fun ls hl => ?_)
            refine lv_goto (tgt := 19) hx hb dX1_mutual_105 (by decide) ?_
            exact ih (x1_9 + (0 : Int32)) (x3_10 + (1 : Int32)) ls (lv_sub hl [2, 1, 3, 0] rfl) hrun
          have hrun := mif_p (bz_nz c_15) hrun
          refine lv_aload_n hx hb dX1_mutual_55 rfl (lv_at hl 0 rfl) ?_
          refine va_get (ci := 1) (v := .ref (aw 0)) (C := RX1) (T := TX1) (N := 10) hx hb hts in_X1 hown hK hP 0 rfl rfl 0 (by decide) (hts _ q370) (fun _ h9 => h9) rfl dX1_mutual_56 ?_
          refine lv_iload_n hx hb dX1_mutual_59 rfl (lv_at hl 2 rfl) ?_
          refine lv_aload_n hx hb dX1_mutual_60 rfl (lv_at hl 0 rfl) ?_
          refine va_get (ci := 1) (v := .ref (aw 0)) (C := RX1) (T := TX1) (N := 10) hx hb hts in_X1 hown hK hP 0 rfl rfl 0 (by decide) (hts _ q370) (fun _ h9 => h9) rfl dX1_mutual_61 ?_
          refine va_getN (ci := 2) (v := .ref (aw 2)) (C := RX2) (T := TX2) (N := 21) hx hb hts in_X2 hown hK hP 1 rfl rfl 13 (by decide) (va_Nw.use rfl (hN _ (zN_of q192 rfl))) (fun _ h9 => h9) rfl dX1_mutual_64 ?_
          refine lv_iload_n hx hb dX1_mutual_67 rfl (lv_at hl 3 rfl) ?_
          obtain ⟨hb_16, hrun⟩ := mck_s rfl hrun
          refine va_iald hx hb hK hP 3 0 rfl rfl hb_16 dX1_mutual_68 ?_
          obtain ⟨r_18, hc_17, hrun⟩ := mob_s rfl hrun
          refine cRV (As := [.int x2_3, .int ((wd_room sw) (Int32.toNatClampNeg x3_10))]) (ci := 2) ⟨hx, hb, hml, hown, hts⟩ hOK hz va_S.rf (hP.sub (ws' := (cW k aw sw)) [1, 2, 3, 4, 5, 6, 7, 8, 9] rfl) (mtX2_sees l D k aw Z hOK _ _ _ _ hc_17) (kX2_sees hts q633 rfl rfl ⟨Nat.le_of_ble_eq_true rfl, Nat.le_of_ble_eq_true rfl⟩) 0 rfl rfl rfl hl.1 rfl (lv_room (Nat.le_of_ble_eq_true rfl)) ⟨Nat.le_of_ble_eq_true rfl, Nat.le_of_ble_eq_true rfl⟩ dX1_mutual_69 ?_
          refine lv_if_eq (tgt := 99) hx hb dX1_mutual_72 (by decide) (fun c_19 => ?_) (fun c_19 => ?_)
          · have hrun := mif_n (bz_z c_19) hrun
            refine lv_iconst (v := (0 : Int32)) hx hb dX1_mutual_99 (by decide) ?_
            refine lv_iadd hx hb dX1_mutual_100 ?_
            refine lv_istore_n (lv' := [(1, .int (x1_9 + (0 : Int32))), (0, .ref (ah 0)), (2, .int x2_3), (3, .int x3_10)]) hx hb dX1_mutual_101 rfl hl (by decide) rfl (fun ls hl => ?_)
            refine lv_iinc (v := (x3_10 + (1 : Int32))) (lv' := [(3, .int (x3_10 + (1 : Int32))), (1, .int (x1_9 + (0 : Int32))), (0, .ref (ah 0)), (2, .int x2_3)]) hx hb dX1_mutual_102 hl (k := 3) rfl rfl (by decide) rfl (fun ls hl => ?_)
            refine lv_goto (tgt := 19) hx hb dX1_mutual_105 (by decide) ?_
            exact ih (x1_9 + (0 : Int32)) (x3_10 + (1 : Int32)) ls (lv_sub hl [2, 1, 3, 0] rfl) hrun
          have hrun := mif_p (bz_nz c_19) hrun
          refine lv_aload_n hx hb dX1_mutual_75 rfl (lv_at hl 0 rfl) ?_
          refine va_get (ci := 1) (v := .ref (aw 0)) (C := RX1) (T := TX1) (N := 10) hx hb hts in_X1 hown hK hP 0 rfl rfl 0 (by decide) (hts _ q370) (fun _ h9 => h9) rfl dX1_mutual_76 ?_
          refine lv_iload_n hx hb dX1_mutual_79 rfl (lv_at hl 3 rfl) ?_
          refine lv_aload_n hx hb dX1_mutual_80 rfl (lv_at hl 0 rfl) ?_
          refine va_get (ci := 1) (v := .ref (aw 0)) (C := RX1) (T := TX1) (N := 10) hx hb hts in_X1 hown hK hP 0 rfl rfl 0 (by decide) (hts _ q370) (fun _ h9 => h9) rfl dX1_mutual_81 ?_
          refine va_getN (ci := 2) (v := .ref (aw 2)) (C := RX2) (T := TX2) (N := 21) hx hb hts in_X2 hown hK hP 1 rfl rfl 13 (by decide) (va_Nw.use rfl (hN _ (zN_of q192 rfl))) (fun _ h9 => h9) rfl dX1_mutual_84 ?_
          refine lv_iload_n hx hb dX1_mutual_87 rfl (lv_at hl 2 rfl) ?_
          obtain ⟨hb_20, hrun⟩ := mck_s rfl hrun
          refine va_iald hx hb hK hP 3 0 rfl rfl hb_20 dX1_mutual_88 ?_
          obtain ⟨r_22, hc_21, hrun⟩ := mob_s rfl hrun
          refine cRV (As := [.int x3_10, .int ((wd_room sw) (Int32.toNatClampNeg x2_3))]) (ci := 2) ⟨hx, hb, hml, hown, hts⟩ hOK hz va_S.rf (hP.sub (ws' := (cW k aw sw)) [1, 2, 3, 4, 5, 6, 7, 8, 9] rfl) (mtX2_sees l D k aw Z hOK _ _ _ _ hc_21) (kX2_sees hts q633 rfl rfl ⟨Nat.le_of_ble_eq_true rfl, Nat.le_of_ble_eq_true rfl⟩) 0 rfl rfl rfl hl.1 rfl (lv_room (Nat.le_of_ble_eq_true rfl)) ⟨Nat.le_of_ble_eq_true rfl, Nat.le_of_ble_eq_true rfl⟩ dX1_mutual_89 ?_
          refine lv_if_eq (tgt := 99) hx hb dX1_mutual_92 (by decide) (fun c_23 => ?_) (fun c_23 => ?_)
          · have hrun := mif_n (bz_z c_23) hrun
            refine lv_iconst (v := (0 : Int32)) hx hb dX1_mutual_99 (by decide) ?_
            refine lv_iadd hx hb dX1_mutual_100 ?_
            refine lv_istore_n (lv' := [(1, .int (x1_9 + (0 : Int32))), (0, .ref (ah 0)), (2, .int x2_3), (3, .int x3_10)]) hx hb dX1_mutual_101 rfl hl (by decide) rfl (fun ls hl => ?_)
            refine lv_iinc (v := (x3_10 + (1 : Int32))) (lv' := [(3, .int (x3_10 + (1 : Int32))), (1, .int (x1_9 + (0 : Int32))), (0, .ref (ah 0)), (2, .int x2_3)]) hx hb dX1_mutual_102 hl (k := 3) rfl rfl (by decide) rfl (fun ls hl => ?_)
            refine lv_goto (tgt := 19) hx hb dX1_mutual_105 (by decide) ?_
            exact ih (x1_9 + (0 : Int32)) (x3_10 + (1 : Int32)) ls (lv_sub hl [2, 1, 3, 0] rfl) hrun
          have hrun := mif_p (bz_nz c_23) hrun
          refine lv_iconst (v := (1 : Int32)) hx hb dX1_mutual_95 (by decide) ?_
          refine lv_goto (tgt := 100) hx hb dX1_mutual_96 (by decide) ?_
          refine lv_iadd hx hb dX1_mutual_100 ?_
          refine lv_istore_n (lv' := [(1, .int (x1_9 + (1 : Int32))), (0, .ref (ah 0)), (2, .int x2_3), (3, .int x3_10)]) hx hb dX1_mutual_101 rfl hl (by decide) rfl (fun ls hl => ?_)
          refine lv_iinc (v := (x3_10 + (1 : Int32))) (lv' := [(3, .int (x3_10 + (1 : Int32))), (1, .int (x1_9 + (1 : Int32))), (0, .ref (ah 0)), (2, .int x2_3)]) hx hb dX1_mutual_102 hl (k := 3) rfl rfl (by decide) rfl (fun ls hl => ?_)
          refine lv_goto (tgt := 19) hx hb dX1_mutual_105 (by decide) ?_
          exact ih (x1_9 + (1 : Int32)) (x3_10 + (1 : Int32)) ls (lv_sub hl [2, 1, 3, 0] rfl) hrun
      exact hL_8 mFU x1_2 (x2_3 + (1 : Int32)) ls (lv_sub hl [1, 2, 3, 0] rfl) hrun
  exact hL_1 mFU (0 : Int32) (0 : Int32) ls (lv_sub hl [2, 1, 0] rfl) hrun
