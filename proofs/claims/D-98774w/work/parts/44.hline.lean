/-! A LINE OF THE HOUSE, behind its first word -/
def rX1_houseLine : Room := { frames := 10, cells := 50, slots := 8030, locals := 427 }
noncomputable def fX1_houseLine (sh : Kp) (su : Wd) (srd : Rd) (x4 : Int32) : Option ((String × Wd × Rd) ⊕ (Wd × Rd)) :=
  if x4 = (0 : Int32) then
    mox (fX1_aGuest sh su srd) (fun E_6 => some (.inl (E_6.1, ((E_6.2.1), (E_6.2.2))))) fun q_7 =>
    some (.inr ((q_7.1), (q_7.2)))
  else
    if x4 = (1 : Int32) then
      mox (fX1_aHole sh su srd) (fun E_13 => some (.inl (E_13.1, ((E_13.2.1), (E_13.2.2))))) fun q_14 =>
      some (.inr ((q_14.1), (q_14.2)))
    else
      if x4 = (2 : Int32) then
        mox (fX1_roomTold sh srd) (fun E_20 => some (.inl (E_20.1, (su, (E_20.2))))) fun q_21 =>
        mlt (wd_s_bath su (q_21.1)) fun su_22 =>
        some (.inr (su_22, (q_21.2)))
      else
        if x4 = (3 : Int32) then
          mox (fX3_number srd (0 : Int32) (1 : Int32)) (fun E_28 => some (.inl (E_28.1, (su, (E_28.2))))) fun q_29 =>
          mox (fX3_number (q_29.2) (0 : Int32) (6 : Int32)) (fun E_34 => some (.inl (E_34.1, (su, (E_34.2))))) fun q_35 =>
          mck (q_29.1) 2 <|
          mlt (wd_s_shift su (upd (wd_shift su) (Int32.toNatClampNeg (q_29.1)) (q_35.1))) fun su_37 =>
          some (.inr (su_37, (q_35.2)))
        else
          if x4 = (4 : Int32) then
            mox (fX3_number srd (0 : Int32) (1 : Int32)) (fun E_43 => some (.inl (E_43.1, (su, (E_43.2))))) fun q_44 =>
            mlt (wd_s_kept su (q_44.1)) fun su_45 =>
            some (.inr (su_45, (q_44.2)))
          else
            if x4 = (5 : Int32) then
              mox (fX3_number srd (0 : Int32) (9 : Int32)) (fun E_51 => some (.inl (E_51.1, (su, (E_51.2))))) fun q_52 =>
              mlt (wd_s_masons su (q_52.1)) fun su_53 =>
              some (.inr (su_53, (q_52.2)))
            else
              if x4 = (6 : Int32) then
                mox (fX3_number srd (0 : Int32) (999 : Int32)) (fun E_59 => some (.inl (E_59.1, (su, (E_59.2))))) fun q_60 =>
                mlt (wd_s_stones su (q_60.1)) fun su_61 =>
                some (.inr (su_61, (q_60.2)))
              else
                if x4 = (7 : Int32) then
                  mox (fX3_number srd (0 : Int32) (100 : Int32)) (fun E_67 => some (.inl (E_67.1, (su, (E_67.2))))) fun q_68 =>
                  mlt (wd_s_bore su (q_68.1)) fun su_69 =>
                  some (.inr (su_69, (q_68.2)))
                else
                  if x4 = (8 : Int32) then
                    mox (fX3_number srd (0 : Int32) (999 : Int32)) (fun E_75 => some (.inl (E_75.1, (su, (E_75.2))))) fun q_76 =>
                    mlt (wd_s_day su (q_76.1)) fun su_77 =>
                    some (.inr (su_77, (q_76.2)))
                  else
                    some (.inl ("SaturdayKeep$Wrong", (su, srd)))
set_option maxHeartbeats 4000000 in
set_option maxRecDepth 100000 in
theorem wtX1_houseLine (l : Launch) (D : va_G) (k : Nat → ClassId) (ah : Nat → Nat) (aw : Nat → Nat) (adr : Nat → Nat) (aim : Nat → Nat) (ard : Nat → Nat) (asc : Nat → Nat) (ath : Nat → Nat) (awl : Nat → Nat) (alo : Nat → Nat) (atr : Nat → Nat) (au : Nat → Nat) (Z : zZ) (hOK : zOK D zCl (zTys k) Z) (hlt : l.stackTraces = false) (hTh : zTh Z) {adK adV : Nat → Nat} (hStr : zStr Z adK adV) (hPv : zPv Z) (sh : Kp) (su : Wd) (srd : Rd) (x4 : Int32) (o : (String × Wd × Rd) ⊕ (Wd × Rd)) (hrun : fX1_houseLine sh su srd x4 = some o) (p : Program) (e : Env) (s : State) (m : MethodId) (args : Array Value) (below : List Frame) (meth : Method) (c : Code) (A : Nat → Prop) (hE : zE p s m args meth c yX1_houseLine cX1_houseLine 6 none) (hnoh : ∀ x ∈ c.exceptionTable.toList, False) (hA : ∀ q : Nat, s.heap.size ≤ q → A q) (hz : Z A s s.heap) (H : Heap) (locs : List Loc) (hP : va_P D zCl ((cH k ah aw adr aim ard asc ath awl alo atr sh) ++ ((cW k au su) ++ (cR k ard srd))) H) (hD : va_D A ((cH k ah aw adr aim ard asc ath awl alo atr sh) ++ ((cW k au su) ++ (cR k ard srd)))) (hS : va_S A s.heap H locs) (ls : Array Slot) (hl : lv_has ls 6 [(0, .ref (ah 0)), (1, .ref (au 0)), (2, .ref (ard 0)), (4, .int x4)]) :
    W p l e rX1_houseLine s m args below meth c H locs 9 1600 (vx_MQ below (QWr (fun r' w' => ∃ (ou : Wd) (ord : Rd), o = .inr (ou, ord) ∧ r' = none ∧ w' = ((cH k ah aw adr aim ard asc ath awl alo atr sh) ++ ((cW k au ou) ++ (cR k ard ord)))) D zCl A) (QXr (fun E' w' => ∃ (ou : Wd) (ord : Rd), o = .inl (E', (ou, ord)) ∧ w' = ((cH k ah aw adr aim ard asc ath awl alo atr sh) ++ ((cW k au ou) ++ (cR k ard ord)))) D zCl A) args s 50 8030 A) (F0 m 235 ls []) := by
  obtain ⟨hx, hb, hr, hml, hown, hts, hlocks, hname⟩ := hE
  have hown : s.vm.findClass RX1 = some m.cls := hown
  have hK := hOK.1 _ _ _ hz
  have hN := hOK.2.1 _ _ _ hz
  unfold fX1_houseLine at hrun
  refine lv_iload hx hb dX1_houseLine_235 (lv_at hl 3 rfl) ?_
  by_cases c_1 : x4 = (0 : Int32)
  · have hrun := mif_p c_1 hrun
    refine lv_tableIn (off := 51) (tgt := 288) hx hb dX1_houseLine_237 (by rw [c_1]; decide) (by rw [c_1]; decide) (by rw [c_1]; rfl) (by decide) ?_
    refine lv_aload_n hx hb dX1_houseLine_288 rfl (lv_at hl 0 rfl) ?_
    refine lv_aload_n hx hb dX1_houseLine_289 rfl (lv_at hl 1 rfl) ?_
    obtain ⟨o_3, hc_2, hrun⟩ := mox_s rfl hrun
    have hP := hP.sub (ws' := ([] ++ (((cH k ah aw adr aim ard asc ath awl alo atr sh) ++ ((cW k au su) ++ (cR k ard srd))) ++ []))) [0, 1, 2, 3, 4, 5, 6, 7, 8, 9, 10, 11] rfl
    have hD := hD.sub (ws' := ([] ++ (((cH k ah aw adr aim ard asc ath awl alo atr sh) ++ ((cW k au su) ++ (cR k ard srd))) ++ []))) [0, 1, 2, 3, 4, 5, 6, 7, 8, 9, 10, 11] (by decide) rfl
    refine cXV [] ((cH k ah aw adr aim ard asc ath awl alo atr sh) ++ ((cW k au su) ++ (cR k ard srd))) [] (As := [.ref (au 0)]) (ci := 1) ⟨hx, hb, hml, hown, hts⟩ hOK hz hS hA hP hD (mtX1_aGuest l D k ah aw adr aim ard asc ath awl alo atr au Z hOK hlt hTh hStr hPv _ _ _ o_3 hc_2) (kX1_aGuest hts q1219 rfl rfl ⟨Nat.le_of_ble_eq_true rfl, Nat.le_of_ble_eq_true rfl⟩) 0 rfl rfl rfl hl.1 rfl (lv_room (Nat.le_of_ble_eq_true rfl)) ⟨Nat.le_of_ble_eq_true rfl, Nat.le_of_ble_eq_true rfl⟩ dX1_houseLine_290 (fun E_ w_ ce_ q9_ H locs hq hP hD hS hce hcv hcl => ?_) (fun r_ w_ H locs hq hP hD hS => ?_)
    · obtain ⟨su_4x, srd_5x, rfl, rfl⟩ := hq
      have hrun := moxl hrun
      cases hrun
      have hP := hP.sub (ws' := ((cH k ah aw adr aim ard asc ath awl alo atr sh) ++ ((cW k au su_4x) ++ (cR k ard srd_5x)))) [0, 1, 2, 3, 4, 5, 6, 7, 8, 9, 10, 11] rfl
      have hD := hD.sub (ws' := ((cH k ah aw adr aim ard asc ath awl alo atr sh) ++ ((cW k au su_4x) ++ (cR k ard srd_5x)))) [0, 1, 2, 3, 4, 5, 6, 7, 8, 9, 10, 11] (by decide) rfl
      exact zout hnoh hlocks hce hcv hcl hP hD hS ⟨_, _, rfl, rfl⟩ (Nat.le_of_ble_eq_true rfl) (Nat.le_of_ble_eq_true rfl)
    obtain ⟨su_4, srd_5, rfl, rfl, rfl⟩ := hq
    have hrun := moxr hrun
    have hP := hP.sub (ws' := ((cH k ah aw adr aim ard asc ath awl alo atr sh) ++ ((cW k au su_4) ++ (cR k ard srd_5)))) [0, 1, 2, 3, 4, 5, 6, 7, 8, 9, 10, 11] rfl
    have hD := hD.sub (ws' := ((cH k ah aw adr aim ard asc ath awl alo atr sh) ++ ((cW k au su_4) ++ (cR k ard srd_5)))) [0, 1, 2, 3, 4, 5, 6, 7, 8, 9, 10, 11] (by decide) rfl
    cases hrun
    refine W.widen (k := 50) (n := 8030) (Nat.le_of_ble_eq_true rfl) (Nat.le_of_ble_eq_true rfl) ?_
    exact vx_ret (retW_v hx hb hr hlocks hP hD hS ⟨_, _, rfl, rfl, rfl⟩ dX1_houseLine_293)
  have hrun := mif_n c_1 hrun
  by_cases c_8 : x4 = (1 : Int32)
  · have hrun := mif_p c_8 hrun
    refine lv_tableIn (off := 57) (tgt := 294) hx hb dX1_houseLine_237 (by rw [c_8]; decide) (by rw [c_8]; decide) (by rw [c_8]; rfl) (by decide) ?_
    refine lv_aload_n hx hb dX1_houseLine_294 rfl (lv_at hl 0 rfl) ?_
    refine lv_aload_n hx hb dX1_houseLine_295 rfl (lv_at hl 1 rfl) ?_
    obtain ⟨o_10, hc_9, hrun⟩ := mox_s rfl hrun
    have hP := hP.sub (ws' := ([] ++ (((cH k ah aw adr aim ard asc ath awl alo atr sh) ++ ((cW k au su) ++ (cR k ard srd))) ++ []))) [0, 1, 2, 3, 4, 5, 6, 7, 8, 9, 10, 11] rfl
    have hD := hD.sub (ws' := ([] ++ (((cH k ah aw adr aim ard asc ath awl alo atr sh) ++ ((cW k au su) ++ (cR k ard srd))) ++ []))) [0, 1, 2, 3, 4, 5, 6, 7, 8, 9, 10, 11] (by decide) rfl
    refine cXV [] ((cH k ah aw adr aim ard asc ath awl alo atr sh) ++ ((cW k au su) ++ (cR k ard srd))) [] (As := [.ref (au 0)]) (ci := 1) ⟨hx, hb, hml, hown, hts⟩ hOK hz hS hA hP hD (mtX1_aHole l D k ah aw adr aim ard asc ath awl alo atr au Z hOK hlt hTh _ _ _ o_10 hc_9) (kX1_aHole hts q1250 rfl rfl ⟨Nat.le_of_ble_eq_true rfl, Nat.le_of_ble_eq_true rfl⟩) 0 rfl rfl rfl hl.1 rfl (lv_room (Nat.le_of_ble_eq_true rfl)) ⟨Nat.le_of_ble_eq_true rfl, Nat.le_of_ble_eq_true rfl⟩ dX1_houseLine_296 (fun E_ w_ ce_ q9_ H locs hq hP hD hS hce hcv hcl => ?_) (fun r_ w_ H locs hq hP hD hS => ?_)
    · obtain ⟨su_11x, srd_12x, rfl, rfl⟩ := hq
      have hrun := moxl hrun
      cases hrun
      have hP := hP.sub (ws' := ((cH k ah aw adr aim ard asc ath awl alo atr sh) ++ ((cW k au su_11x) ++ (cR k ard srd_12x)))) [0, 1, 2, 3, 4, 5, 6, 7, 8, 9, 10, 11] rfl
      have hD := hD.sub (ws' := ((cH k ah aw adr aim ard asc ath awl alo atr sh) ++ ((cW k au su_11x) ++ (cR k ard srd_12x)))) [0, 1, 2, 3, 4, 5, 6, 7, 8, 9, 10, 11] (by decide) rfl
      exact zout hnoh hlocks hce hcv hcl hP hD hS ⟨_, _, rfl, rfl⟩ (Nat.le_of_ble_eq_true rfl) (Nat.le_of_ble_eq_true rfl)
    obtain ⟨su_11, srd_12, rfl, rfl, rfl⟩ := hq
    have hrun := moxr hrun
    have hP := hP.sub (ws' := ((cH k ah aw adr aim ard asc ath awl alo atr sh) ++ ((cW k au su_11) ++ (cR k ard srd_12)))) [0, 1, 2, 3, 4, 5, 6, 7, 8, 9, 10, 11] rfl
    have hD := hD.sub (ws' := ((cH k ah aw adr aim ard asc ath awl alo atr sh) ++ ((cW k au su_11) ++ (cR k ard srd_12)))) [0, 1, 2, 3, 4, 5, 6, 7, 8, 9, 10, 11] (by decide) rfl
    cases hrun
    refine W.widen (k := 50) (n := 8030) (Nat.le_of_ble_eq_true rfl) (Nat.le_of_ble_eq_true rfl) ?_
    exact vx_ret (retW_v hx hb hr hlocks hP hD hS ⟨_, _, rfl, rfl, rfl⟩ dX1_houseLine_299)
  have hrun := mif_n c_8 hrun
  by_cases c_15 : x4 = (2 : Int32)
  · have hrun := mif_p c_15 hrun
    refine lv_tableIn (off := 63) (tgt := 300) hx hb dX1_houseLine_237 (by rw [c_15]; decide) (by rw [c_15]; decide) (by rw [c_15]; rfl) (by decide) ?_
    refine lv_aload_n hx hb dX1_houseLine_300 rfl (lv_at hl 1 rfl) ?_
    refine lv_aload_n hx hb dX1_houseLine_301 rfl (lv_at hl 0 rfl) ?_
    obtain ⟨o_17, hc_16, hrun⟩ := mox_s rfl hrun
    have hP := hP.sub (ws' := ([] ++ (((cH k ah aw adr aim ard asc ath awl alo atr sh) ++ (cR k ard srd)) ++ (cW k au su)))) [0, 10, 11, 1, 2, 3, 4, 5, 6, 7, 8, 9] rfl
    have hD := hD.sub (ws' := ([] ++ (((cH k ah aw adr aim ard asc ath awl alo atr sh) ++ (cR k ard srd)) ++ (cW k au su)))) [0, 10, 11, 1, 2, 3, 4, 5, 6, 7, 8, 9] (by decide) rfl
    refine cXV [] ((cH k ah aw adr aim ard asc ath awl alo atr sh) ++ (cR k ard srd)) (cW k au su) (As := []) (ci := 1) ⟨hx, hb, hml, hown, hts⟩ hOK hz hS hA hP hD (mtX1_roomTold l D k ah aw adr aim ard asc ath awl alo atr Z hOK hlt hTh _ _ o_17 hc_16) (kX1_roomTold hts q1254 rfl rfl ⟨Nat.le_of_ble_eq_true rfl, Nat.le_of_ble_eq_true rfl⟩) 0 rfl rfl rfl hl.1 rfl (lv_room (Nat.le_of_ble_eq_true rfl)) ⟨Nat.le_of_ble_eq_true rfl, Nat.le_of_ble_eq_true rfl⟩ dX1_houseLine_302 (fun E_ w_ ce_ q9_ H locs hq hP hD hS hce hcv hcl => ?_) (fun r_ w_ H locs hq hP hD hS => ?_)
    · obtain ⟨srd_18x, rfl, rfl⟩ := hq
      have hrun := moxl hrun
      cases hrun
      have hP := hP.sub (ws' := ((cH k ah aw adr aim ard asc ath awl alo atr sh) ++ ((cW k au su) ++ (cR k ard srd_18x)))) [0, 3, 4, 5, 6, 7, 8, 9, 10, 11, 1, 2] rfl
      have hD := hD.sub (ws' := ((cH k ah aw adr aim ard asc ath awl alo atr sh) ++ ((cW k au su) ++ (cR k ard srd_18x)))) [0, 3, 4, 5, 6, 7, 8, 9, 10, 11, 1, 2] (by decide) rfl
      exact zout hnoh hlocks hce hcv hcl hP hD hS ⟨_, _, rfl, rfl⟩ (Nat.le_of_ble_eq_true rfl) (Nat.le_of_ble_eq_true rfl)
    obtain ⟨r_19, srd_18, rfl, rfl, rfl⟩ := hq
    have hrun := moxr hrun
    have hP := hP.sub (ws' := ((cH k ah aw adr aim ard asc ath awl alo atr sh) ++ ((cW k au su) ++ (cR k ard srd_18)))) [0, 3, 4, 5, 6, 7, 8, 9, 10, 11, 1, 2] rfl
    have hD := hD.sub (ws' := ((cH k ah aw adr aim ard asc ath awl alo atr sh) ++ ((cW k au su) ++ (cR k ard srd_18)))) [0, 3, 4, 5, 6, 7, 8, 9, 10, 11, 1, 2] (by decide) rfl
    refine va_putN (ci := 2) (v := .int r_19) (ty := tyX2 3) (C := RX2) (T := TX2) (N := 21) hx hb hts in_X2 tyX2 tyX2_ok nmX2 hown hK hP hD hS 1 rfl rfl 3 (by decide) (va_Nw.use rfl (hN _ (zN_of q171 rfl))) (fun _ h9 => h9) rfl (tyX2_ok 3 (by decide)) rfl rfl (Nat.le_of_ble_eq_true rfl) dX1_houseLine_305 (fun H locs hP hD hS => ?_)
    have hP : va_P D zCl ((cH k ah aw adr aim ard asc ath awl alo atr sh) ++ ((cW k au (wd_s_bath su r_19)) ++ (cR k ard srd_18))) _ := hP
    have hD : va_D A ((cH k ah aw adr aim ard asc ath awl alo atr sh) ++ ((cW k au (wd_s_bath su r_19)) ++ (cR k ard srd_18))) := hD
    obtain ⟨su_22, esu_22⟩ : ∃ z : Wd, z = (wd_s_bath su r_19) := ⟨_, rfl⟩
    rw [← esu_22] at hP hD
    have hrun := mlt_s hrun su_22 esu_22
    cases hrun
    refine W.widen (k := 50) (n := 8030) (Nat.le_of_ble_eq_true rfl) (Nat.le_of_ble_eq_true rfl) ?_
    exact vx_ret (retW_v hx hb hr hlocks hP hD hS ⟨_, _, rfl, rfl, rfl⟩ dX1_houseLine_308)
  have hrun := mif_n c_15 hrun
  by_cases c_23 : x4 = (3 : Int32)
  · have hrun := mif_p c_23 hrun
    refine lv_tableIn (off := 72) (tgt := 309) hx hb dX1_houseLine_237 (by rw [c_23]; decide) (by rw [c_23]; decide) (by rw [c_23]; rfl) (by decide) ?_
    refine lv_aload_n hx hb dX1_houseLine_309 rfl (lv_at hl 2 rfl) ?_
    refine lv_iconst (v := (0 : Int32)) hx hb dX1_houseLine_310 (by decide) ?_
    refine lv_iconst (v := (1 : Int32)) hx hb dX1_houseLine_311 (by decide) ?_
    obtain ⟨o_25, hc_24, hrun⟩ := mox_s rfl hrun
    have hP := hP.sub (ws' := ([] ++ ((cR k ard srd) ++ ((cH k ah aw adr aim ard asc ath awl alo atr sh) ++ (cW k au su))))) [10, 11, 0, 1, 2, 3, 4, 5, 6, 7, 8, 9] rfl
    have hD := hD.sub (ws' := ([] ++ ((cR k ard srd) ++ ((cH k ah aw adr aim ard asc ath awl alo atr sh) ++ (cW k au su))))) [10, 11, 0, 1, 2, 3, 4, 5, 6, 7, 8, 9] (by decide) rfl
    refine cXV [] (cR k ard srd) ((cH k ah aw adr aim ard asc ath awl alo atr sh) ++ (cW k au su)) (As := [.int (0 : Int32), .int (1 : Int32)]) (ci := 3) ⟨hx, hb, hml, hown, hts⟩ hOK hz hS hA hP hD (mtX3_number l D k ard Z hOK hlt hTh _ _ _ o_25 hc_24) (kX3_number hts q1232 rfl rfl ⟨Nat.le_of_ble_eq_true rfl, Nat.le_of_ble_eq_true rfl⟩) 0 rfl rfl rfl hl.1 rfl (lv_room (Nat.le_of_ble_eq_true rfl)) ⟨Nat.le_of_ble_eq_true rfl, Nat.le_of_ble_eq_true rfl⟩ dX1_houseLine_312 (fun E_ w_ ce_ q9_ H locs hq hP hD hS hce hcv hcl => ?_) (fun r_ w_ H locs hq hP hD hS => ?_)
    · obtain ⟨srd_26x, rfl, rfl⟩ := hq
      have hrun := moxl hrun
      cases hrun
      have hP := hP.sub (ws' := ((cH k ah aw adr aim ard asc ath awl alo atr sh) ++ ((cW k au su) ++ (cR k ard srd_26x)))) [2, 3, 4, 5, 6, 7, 8, 9, 10, 11, 0, 1] rfl
      have hD := hD.sub (ws' := ((cH k ah aw adr aim ard asc ath awl alo atr sh) ++ ((cW k au su) ++ (cR k ard srd_26x)))) [2, 3, 4, 5, 6, 7, 8, 9, 10, 11, 0, 1] (by decide) rfl
      exact zout hnoh hlocks hce hcv hcl hP hD hS ⟨_, _, rfl, rfl⟩ (Nat.le_of_ble_eq_true rfl) (Nat.le_of_ble_eq_true rfl)
    obtain ⟨r_27, srd_26, rfl, rfl, rfl⟩ := hq
    have hrun := moxr hrun
    have hP := hP.sub (ws' := ((cH k ah aw adr aim ard asc ath awl alo atr sh) ++ ((cW k au su) ++ (cR k ard srd_26)))) [2, 3, 4, 5, 6, 7, 8, 9, 10, 11, 0, 1] rfl
    have hD := hD.sub (ws' := ((cH k ah aw adr aim ard asc ath awl alo atr sh) ++ ((cW k au su) ++ (cR k ard srd_26)))) [2, 3, 4, 5, 6, 7, 8, 9, 10, 11, 0, 1] (by decide) rfl
    refine lv_istore (lv' := [(5, .int r_27), (0, .ref (ah 0)), (1, .ref (au 0)), (2, .ref (ard 0)), (4, .int x4)]) hx hb dX1_houseLine_315 hl (by decide) rfl (fun ls hl => ?_)
    refine lv_aload_n hx hb dX1_houseLine_317 rfl (lv_at hl 2 rfl) ?_
    refine va_getN (ci := 2) (v := .ref (au 1)) (C := RX2) (T := TX2) (N := 21) hx hb hts in_X2 hown hK hP 1 rfl rfl 12 (by decide) (va_Nw.use rfl (hN _ (zN_of q189 rfl))) (fun _ h9 => h9) rfl dX1_houseLine_318 ?_
    refine lv_iload hx hb dX1_houseLine_321 (lv_at hl 0 rfl) ?_
    refine lv_aload_n hx hb dX1_houseLine_323 rfl (lv_at hl 3 rfl) ?_
    refine lv_iconst (v := (0 : Int32)) hx hb dX1_houseLine_324 (by decide) ?_
    refine lv_bipush (v := (6 : Int32)) hx hb dX1_houseLine_325 (by decide) ?_
    obtain ⟨o_31, hc_30, hrun⟩ := mox_s rfl hrun
    have hP := hP.sub (ws' := ([] ++ ((cR k ard srd_26) ++ ((cH k ah aw adr aim ard asc ath awl alo atr sh) ++ (cW k au su))))) [10, 11, 0, 1, 2, 3, 4, 5, 6, 7, 8, 9] rfl
    have hD := hD.sub (ws' := ([] ++ ((cR k ard srd_26) ++ ((cH k ah aw adr aim ard asc ath awl alo atr sh) ++ (cW k au su))))) [10, 11, 0, 1, 2, 3, 4, 5, 6, 7, 8, 9] (by decide) rfl
    refine cXV [] (cR k ard srd_26) ((cH k ah aw adr aim ard asc ath awl alo atr sh) ++ (cW k au su)) (As := [.int (0 : Int32), .int (6 : Int32)]) (ci := 3) ⟨hx, hb, hml, hown, hts⟩ hOK hz hS hA hP hD (mtX3_number l D k ard Z hOK hlt hTh _ _ _ o_31 hc_30) (kX3_number hts q1232 rfl rfl ⟨Nat.le_of_ble_eq_true rfl, Nat.le_of_ble_eq_true rfl⟩) 0 rfl rfl rfl hl.1 rfl (lv_room (Nat.le_of_ble_eq_true rfl)) ⟨Nat.le_of_ble_eq_true rfl, Nat.le_of_ble_eq_true rfl⟩ dX1_houseLine_327 (fun E_ w_ ce_ q9_ H locs hq hP hD hS hce hcv hcl => ?_) (fun r_ w_ H locs hq hP hD hS => ?_)
    · obtain ⟨srd_32x, rfl, rfl⟩ := hq
      have hrun := moxl hrun
      cases hrun
      have hP := hP.sub (ws' := ((cH k ah aw adr aim ard asc ath awl alo atr sh) ++ ((cW k au su) ++ (cR k ard srd_32x)))) [2, 3, 4, 5, 6, 7, 8, 9, 10, 11, 0, 1] rfl
      have hD := hD.sub (ws' := ((cH k ah aw adr aim ard asc ath awl alo atr sh) ++ ((cW k au su) ++ (cR k ard srd_32x)))) [2, 3, 4, 5, 6, 7, 8, 9, 10, 11, 0, 1] (by decide) rfl
      exact zout hnoh hlocks hce hcv hcl hP hD hS ⟨_, _, rfl, rfl⟩ (Nat.le_of_ble_eq_true rfl) (Nat.le_of_ble_eq_true rfl)
    obtain ⟨r_33, srd_32, rfl, rfl, rfl⟩ := hq
    have hrun := moxr hrun
    have hP := hP.sub (ws' := ((cH k ah aw adr aim ard asc ath awl alo atr sh) ++ ((cW k au su) ++ (cR k ard srd_32)))) [2, 3, 4, 5, 6, 7, 8, 9, 10, 11, 0, 1] rfl
    have hD := hD.sub (ws' := ((cH k ah aw adr aim ard asc ath awl alo atr sh) ++ ((cW k au su) ++ (cR k ard srd_32)))) [2, 3, 4, 5, 6, 7, 8, 9, 10, 11, 0, 1] (by decide) rfl
    obtain ⟨hb_36, hrun⟩ := mck_s rfl hrun
    refine va_iast hx hb hK hP hD hS 2 0 rfl rfl hb_36 dX1_houseLine_330 (fun H locs hP hD hS => ?_)
    have hP : va_P D zCl ((cH k ah aw adr aim ard asc ath awl alo atr sh) ++ ((cW k au (wd_s_shift su (upd (wd_shift su) (Int32.toNatClampNeg r_27) r_33))) ++ (cR k ard srd_32))) _ := hP
    have hD : va_D A ((cH k ah aw adr aim ard asc ath awl alo atr sh) ++ ((cW k au (wd_s_shift su (upd (wd_shift su) (Int32.toNatClampNeg r_27) r_33))) ++ (cR k ard srd_32))) := hD
    obtain ⟨su_37, esu_37⟩ : ∃ z : Wd, z = (wd_s_shift su (upd (wd_shift su) (Int32.toNatClampNeg r_27) r_33)) := ⟨_, rfl⟩
    rw [← esu_37] at hP hD
    have hrun := mlt_s hrun su_37 esu_37
    cases hrun
    refine W.widen (k := 50) (n := 8030) (Nat.le_of_ble_eq_true rfl) (Nat.le_of_ble_eq_true rfl) ?_
    exact vx_ret (retW_v hx hb hr hlocks hP hD hS ⟨_, _, rfl, rfl, rfl⟩ dX1_houseLine_331)
  have hrun := mif_n c_23 hrun
  by_cases c_38 : x4 = (4 : Int32)
  · have hrun := mif_p c_38 hrun
    refine lv_tableIn (off := 95) (tgt := 332) hx hb dX1_houseLine_237 (by rw [c_38]; decide) (by rw [c_38]; decide) (by rw [c_38]; rfl) (by decide) ?_
    refine lv_aload_n hx hb dX1_houseLine_332 rfl (lv_at hl 1 rfl) ?_
    refine lv_aload_n hx hb dX1_houseLine_333 rfl (lv_at hl 2 rfl) ?_
    refine lv_iconst (v := (0 : Int32)) hx hb dX1_houseLine_334 (by decide) ?_
    refine lv_iconst (v := (1 : Int32)) hx hb dX1_houseLine_335 (by decide) ?_
    obtain ⟨o_40, hc_39, hrun⟩ := mox_s rfl hrun
    have hP := hP.sub (ws' := ([] ++ ((cR k ard srd) ++ ((cH k ah aw adr aim ard asc ath awl alo atr sh) ++ (cW k au su))))) [10, 11, 0, 1, 2, 3, 4, 5, 6, 7, 8, 9] rfl
    have hD := hD.sub (ws' := ([] ++ ((cR k ard srd) ++ ((cH k ah aw adr aim ard asc ath awl alo atr sh) ++ (cW k au su))))) [10, 11, 0, 1, 2, 3, 4, 5, 6, 7, 8, 9] (by decide) rfl
    refine cXV [] (cR k ard srd) ((cH k ah aw adr aim ard asc ath awl alo atr sh) ++ (cW k au su)) (As := [.int (0 : Int32), .int (1 : Int32)]) (ci := 3) ⟨hx, hb, hml, hown, hts⟩ hOK hz hS hA hP hD (mtX3_number l D k ard Z hOK hlt hTh _ _ _ o_40 hc_39) (kX3_number hts q1232 rfl rfl ⟨Nat.le_of_ble_eq_true rfl, Nat.le_of_ble_eq_true rfl⟩) 0 rfl rfl rfl hl.1 rfl (lv_room (Nat.le_of_ble_eq_true rfl)) ⟨Nat.le_of_ble_eq_true rfl, Nat.le_of_ble_eq_true rfl⟩ dX1_houseLine_336 (fun E_ w_ ce_ q9_ H locs hq hP hD hS hce hcv hcl => ?_) (fun r_ w_ H locs hq hP hD hS => ?_)
    · obtain ⟨srd_41x, rfl, rfl⟩ := hq
      have hrun := moxl hrun
      cases hrun
      have hP := hP.sub (ws' := ((cH k ah aw adr aim ard asc ath awl alo atr sh) ++ ((cW k au su) ++ (cR k ard srd_41x)))) [2, 3, 4, 5, 6, 7, 8, 9, 10, 11, 0, 1] rfl
      have hD := hD.sub (ws' := ((cH k ah aw adr aim ard asc ath awl alo atr sh) ++ ((cW k au su) ++ (cR k ard srd_41x)))) [2, 3, 4, 5, 6, 7, 8, 9, 10, 11, 0, 1] (by decide) rfl
      exact zout hnoh hlocks hce hcv hcl hP hD hS ⟨_, _, rfl, rfl⟩ (Nat.le_of_ble_eq_true rfl) (Nat.le_of_ble_eq_true rfl)
    obtain ⟨r_42, srd_41, rfl, rfl, rfl⟩ := hq
    have hrun := moxr hrun
    have hP := hP.sub (ws' := ((cH k ah aw adr aim ard asc ath awl alo atr sh) ++ ((cW k au su) ++ (cR k ard srd_41)))) [2, 3, 4, 5, 6, 7, 8, 9, 10, 11, 0, 1] rfl
    have hD := hD.sub (ws' := ((cH k ah aw adr aim ard asc ath awl alo atr sh) ++ ((cW k au su) ++ (cR k ard srd_41)))) [2, 3, 4, 5, 6, 7, 8, 9, 10, 11, 0, 1] (by decide) rfl
    refine va_putN (ci := 2) (v := .int r_42) (ty := tyX2 4) (C := RX2) (T := TX2) (N := 21) hx hb hts in_X2 tyX2 tyX2_ok nmX2 hown hK hP hD hS 1 rfl rfl 4 (by decide) (va_Nw.use rfl (hN _ (zN_of q173 rfl))) (fun _ h9 => h9) rfl (tyX2_ok 4 (by decide)) rfl rfl (Nat.le_of_ble_eq_true rfl) dX1_houseLine_339 (fun H locs hP hD hS => ?_)
    have hP : va_P D zCl ((cH k ah aw adr aim ard asc ath awl alo atr sh) ++ ((cW k au (wd_s_kept su r_42)) ++ (cR k ard srd_41))) _ := hP
    have hD : va_D A ((cH k ah aw adr aim ard asc ath awl alo atr sh) ++ ((cW k au (wd_s_kept su r_42)) ++ (cR k ard srd_41))) := hD
    obtain ⟨su_45, esu_45⟩ : ∃ z : Wd, z = (wd_s_kept su r_42) := ⟨_, rfl⟩
    rw [← esu_45] at hP hD
    have hrun := mlt_s hrun su_45 esu_45
    cases hrun
    refine W.widen (k := 50) (n := 8030) (Nat.le_of_ble_eq_true rfl) (Nat.le_of_ble_eq_true rfl) ?_
    exact vx_ret (retW_v hx hb hr hlocks hP hD hS ⟨_, _, rfl, rfl, rfl⟩ dX1_houseLine_342)
  have hrun := mif_n c_38 hrun
  by_cases c_46 : x4 = (5 : Int32)
  · have hrun := mif_p c_46 hrun
    refine lv_tableIn (off := 106) (tgt := 343) hx hb dX1_houseLine_237 (by rw [c_46]; decide) (by rw [c_46]; decide) (by rw [c_46]; rfl) (by decide) ?_
    refine lv_aload_n hx hb dX1_houseLine_343 rfl (lv_at hl 1 rfl) ?_
    refine lv_aload_n hx hb dX1_houseLine_344 rfl (lv_at hl 2 rfl) ?_
    refine lv_iconst (v := (0 : Int32)) hx hb dX1_houseLine_345 (by decide) ?_
    refine lv_bipush (v := (9 : Int32)) hx hb dX1_houseLine_346 (by decide) ?_
    obtain ⟨o_48, hc_47, hrun⟩ := mox_s rfl hrun
    have hP := hP.sub (ws' := ([] ++ ((cR k ard srd) ++ ((cH k ah aw adr aim ard asc ath awl alo atr sh) ++ (cW k au su))))) [10, 11, 0, 1, 2, 3, 4, 5, 6, 7, 8, 9] rfl
    have hD := hD.sub (ws' := ([] ++ ((cR k ard srd) ++ ((cH k ah aw adr aim ard asc ath awl alo atr sh) ++ (cW k au su))))) [10, 11, 0, 1, 2, 3, 4, 5, 6, 7, 8, 9] (by decide) rfl
    refine cXV [] (cR k ard srd) ((cH k ah aw adr aim ard asc ath awl alo atr sh) ++ (cW k au su)) (As := [.int (0 : Int32), .int (9 : Int32)]) (ci := 3) ⟨hx, hb, hml, hown, hts⟩ hOK hz hS hA hP hD (mtX3_number l D k ard Z hOK hlt hTh _ _ _ o_48 hc_47) (kX3_number hts q1232 rfl rfl ⟨Nat.le_of_ble_eq_true rfl, Nat.le_of_ble_eq_true rfl⟩) 0 rfl rfl rfl hl.1 rfl (lv_room (Nat.le_of_ble_eq_true rfl)) ⟨Nat.le_of_ble_eq_true rfl, Nat.le_of_ble_eq_true rfl⟩ dX1_houseLine_348 (fun E_ w_ ce_ q9_ H locs hq hP hD hS hce hcv hcl => ?_) (fun r_ w_ H locs hq hP hD hS => ?_)
    · obtain ⟨srd_49x, rfl, rfl⟩ := hq
      have hrun := moxl hrun
      cases hrun
      have hP := hP.sub (ws' := ((cH k ah aw adr aim ard asc ath awl alo atr sh) ++ ((cW k au su) ++ (cR k ard srd_49x)))) [2, 3, 4, 5, 6, 7, 8, 9, 10, 11, 0, 1] rfl
      have hD := hD.sub (ws' := ((cH k ah aw adr aim ard asc ath awl alo atr sh) ++ ((cW k au su) ++ (cR k ard srd_49x)))) [2, 3, 4, 5, 6, 7, 8, 9, 10, 11, 0, 1] (by decide) rfl
      exact zout hnoh hlocks hce hcv hcl hP hD hS ⟨_, _, rfl, rfl⟩ (Nat.le_of_ble_eq_true rfl) (Nat.le_of_ble_eq_true rfl)
    obtain ⟨r_50, srd_49, rfl, rfl, rfl⟩ := hq
    have hrun := moxr hrun
    have hP := hP.sub (ws' := ((cH k ah aw adr aim ard asc ath awl alo atr sh) ++ ((cW k au su) ++ (cR k ard srd_49)))) [2, 3, 4, 5, 6, 7, 8, 9, 10, 11, 0, 1] rfl
    have hD := hD.sub (ws' := ((cH k ah aw adr aim ard asc ath awl alo atr sh) ++ ((cW k au su) ++ (cR k ard srd_49)))) [2, 3, 4, 5, 6, 7, 8, 9, 10, 11, 0, 1] (by decide) rfl
    refine va_putN (ci := 2) (v := .int r_50) (ty := tyX2 5) (C := RX2) (T := TX2) (N := 21) hx hb hts in_X2 tyX2 tyX2_ok nmX2 hown hK hP hD hS 1 rfl rfl 5 (by decide) (va_Nw.use rfl (hN _ (zN_of q175 rfl))) (fun _ h9 => h9) rfl (tyX2_ok 5 (by decide)) rfl rfl (Nat.le_of_ble_eq_true rfl) dX1_houseLine_351 (fun H locs hP hD hS => ?_)
    have hP : va_P D zCl ((cH k ah aw adr aim ard asc ath awl alo atr sh) ++ ((cW k au (wd_s_masons su r_50)) ++ (cR k ard srd_49))) _ := hP
    have hD : va_D A ((cH k ah aw adr aim ard asc ath awl alo atr sh) ++ ((cW k au (wd_s_masons su r_50)) ++ (cR k ard srd_49))) := hD
    obtain ⟨su_53, esu_53⟩ : ∃ z : Wd, z = (wd_s_masons su r_50) := ⟨_, rfl⟩
    rw [← esu_53] at hP hD
    have hrun := mlt_s hrun su_53 esu_53
    cases hrun
    refine W.widen (k := 50) (n := 8030) (Nat.le_of_ble_eq_true rfl) (Nat.le_of_ble_eq_true rfl) ?_
    exact vx_ret (retW_v hx hb hr hlocks hP hD hS ⟨_, _, rfl, rfl, rfl⟩ dX1_houseLine_354)
  have hrun := mif_n c_46 hrun
  by_cases c_54 : x4 = (6 : Int32)
  · have hrun := mif_p c_54 hrun
    refine lv_tableIn (off := 118) (tgt := 355) hx hb dX1_houseLine_237 (by rw [c_54]; decide) (by rw [c_54]; decide) (by rw [c_54]; rfl) (by decide) ?_
    refine lv_aload_n hx hb dX1_houseLine_355 rfl (lv_at hl 1 rfl) ?_
    refine lv_aload_n hx hb dX1_houseLine_356 rfl (lv_at hl 2 rfl) ?_
    refine lv_iconst (v := (0 : Int32)) hx hb dX1_houseLine_357 (by decide) ?_
    refine lv_sipush (v := (999 : Int32)) hx hb dX1_houseLine_358 (by decide) ?_
    obtain ⟨o_56, hc_55, hrun⟩ := mox_s rfl hrun
    have hP := hP.sub (ws' := ([] ++ ((cR k ard srd) ++ ((cH k ah aw adr aim ard asc ath awl alo atr sh) ++ (cW k au su))))) [10, 11, 0, 1, 2, 3, 4, 5, 6, 7, 8, 9] rfl
    have hD := hD.sub (ws' := ([] ++ ((cR k ard srd) ++ ((cH k ah aw adr aim ard asc ath awl alo atr sh) ++ (cW k au su))))) [10, 11, 0, 1, 2, 3, 4, 5, 6, 7, 8, 9] (by decide) rfl
    refine cXV [] (cR k ard srd) ((cH k ah aw adr aim ard asc ath awl alo atr sh) ++ (cW k au su)) (As := [.int (0 : Int32), .int (999 : Int32)]) (ci := 3) ⟨hx, hb, hml, hown, hts⟩ hOK hz hS hA hP hD (mtX3_number l D k ard Z hOK hlt hTh _ _ _ o_56 hc_55) (kX3_number hts q1232 rfl rfl ⟨Nat.le_of_ble_eq_true rfl, Nat.le_of_ble_eq_true rfl⟩) 0 rfl rfl rfl hl.1 rfl (lv_room (Nat.le_of_ble_eq_true rfl)) ⟨Nat.le_of_ble_eq_true rfl, Nat.le_of_ble_eq_true rfl⟩ dX1_houseLine_361 (fun E_ w_ ce_ q9_ H locs hq hP hD hS hce hcv hcl => ?_) (fun r_ w_ H locs hq hP hD hS => ?_)
    · obtain ⟨srd_57x, rfl, rfl⟩ := hq
      have hrun := moxl hrun
      cases hrun
      have hP := hP.sub (ws' := ((cH k ah aw adr aim ard asc ath awl alo atr sh) ++ ((cW k au su) ++ (cR k ard srd_57x)))) [2, 3, 4, 5, 6, 7, 8, 9, 10, 11, 0, 1] rfl
      have hD := hD.sub (ws' := ((cH k ah aw adr aim ard asc ath awl alo atr sh) ++ ((cW k au su) ++ (cR k ard srd_57x)))) [2, 3, 4, 5, 6, 7, 8, 9, 10, 11, 0, 1] (by decide) rfl
      exact zout hnoh hlocks hce hcv hcl hP hD hS ⟨_, _, rfl, rfl⟩ (Nat.le_of_ble_eq_true rfl) (Nat.le_of_ble_eq_true rfl)
    obtain ⟨r_58, srd_57, rfl, rfl, rfl⟩ := hq
    have hrun := moxr hrun
    have hP := hP.sub (ws' := ((cH k ah aw adr aim ard asc ath awl alo atr sh) ++ ((cW k au su) ++ (cR k ard srd_57)))) [2, 3, 4, 5, 6, 7, 8, 9, 10, 11, 0, 1] rfl
    have hD := hD.sub (ws' := ((cH k ah aw adr aim ard asc ath awl alo atr sh) ++ ((cW k au su) ++ (cR k ard srd_57)))) [2, 3, 4, 5, 6, 7, 8, 9, 10, 11, 0, 1] (by decide) rfl
    refine va_putN (ci := 2) (v := .int r_58) (ty := tyX2 6) (C := RX2) (T := TX2) (N := 21) hx hb hts in_X2 tyX2 tyX2_ok nmX2 hown hK hP hD hS 1 rfl rfl 6 (by decide) (va_Nw.use rfl (hN _ (zN_of q177 rfl))) (fun _ h9 => h9) rfl (tyX2_ok 6 (by decide)) rfl rfl (Nat.le_of_ble_eq_true rfl) dX1_houseLine_364 (fun H locs hP hD hS => ?_)
    have hP : va_P D zCl ((cH k ah aw adr aim ard asc ath awl alo atr sh) ++ ((cW k au (wd_s_stones su r_58)) ++ (cR k ard srd_57))) _ := hP
    have hD : va_D A ((cH k ah aw adr aim ard asc ath awl alo atr sh) ++ ((cW k au (wd_s_stones su r_58)) ++ (cR k ard srd_57))) := hD
    obtain ⟨su_61, esu_61⟩ : ∃ z : Wd, z = (wd_s_stones su r_58) := ⟨_, rfl⟩
    rw [← esu_61] at hP hD
    have hrun := mlt_s hrun su_61 esu_61
    cases hrun
    refine W.widen (k := 50) (n := 8030) (Nat.le_of_ble_eq_true rfl) (Nat.le_of_ble_eq_true rfl) ?_
    exact vx_ret (retW_v hx hb hr hlocks hP hD hS ⟨_, _, rfl, rfl, rfl⟩ dX1_houseLine_367)
  have hrun := mif_n c_54 hrun
  by_cases c_62 : x4 = (7 : Int32)
  · have hrun := mif_p c_62 hrun
    refine lv_tableIn (off := 131) (tgt := 368) hx hb dX1_houseLine_237 (by rw [c_62]; decide) (by rw [c_62]; decide) (by rw [c_62]; rfl) (by decide) ?_
    refine lv_aload_n hx hb dX1_houseLine_368 rfl (lv_at hl 1 rfl) ?_
    refine lv_aload_n hx hb dX1_houseLine_369 rfl (lv_at hl 2 rfl) ?_
    refine lv_iconst (v := (0 : Int32)) hx hb dX1_houseLine_370 (by decide) ?_
    refine lv_bipush (v := (100 : Int32)) hx hb dX1_houseLine_371 (by decide) ?_
    obtain ⟨o_64, hc_63, hrun⟩ := mox_s rfl hrun
    have hP := hP.sub (ws' := ([] ++ ((cR k ard srd) ++ ((cH k ah aw adr aim ard asc ath awl alo atr sh) ++ (cW k au su))))) [10, 11, 0, 1, 2, 3, 4, 5, 6, 7, 8, 9] rfl
    have hD := hD.sub (ws' := ([] ++ ((cR k ard srd) ++ ((cH k ah aw adr aim ard asc ath awl alo atr sh) ++ (cW k au su))))) [10, 11, 0, 1, 2, 3, 4, 5, 6, 7, 8, 9] (by decide) rfl
    refine cXV [] (cR k ard srd) ((cH k ah aw adr aim ard asc ath awl alo atr sh) ++ (cW k au su)) (As := [.int (0 : Int32), .int (100 : Int32)]) (ci := 3) ⟨hx, hb, hml, hown, hts⟩ hOK hz hS hA hP hD (mtX3_number l D k ard Z hOK hlt hTh _ _ _ o_64 hc_63) (kX3_number hts q1232 rfl rfl ⟨Nat.le_of_ble_eq_true rfl, Nat.le_of_ble_eq_true rfl⟩) 0 rfl rfl rfl hl.1 rfl (lv_room (Nat.le_of_ble_eq_true rfl)) ⟨Nat.le_of_ble_eq_true rfl, Nat.le_of_ble_eq_true rfl⟩ dX1_houseLine_373 (fun E_ w_ ce_ q9_ H locs hq hP hD hS hce hcv hcl => ?_) (fun r_ w_ H locs hq hP hD hS => ?_)
    · obtain ⟨srd_65x, rfl, rfl⟩ := hq
      have hrun := moxl hrun
      cases hrun
      have hP := hP.sub (ws' := ((cH k ah aw adr aim ard asc ath awl alo atr sh) ++ ((cW k au su) ++ (cR k ard srd_65x)))) [2, 3, 4, 5, 6, 7, 8, 9, 10, 11, 0, 1] rfl
      have hD := hD.sub (ws' := ((cH k ah aw adr aim ard asc ath awl alo atr sh) ++ ((cW k au su) ++ (cR k ard srd_65x)))) [2, 3, 4, 5, 6, 7, 8, 9, 10, 11, 0, 1] (by decide) rfl
      exact zout hnoh hlocks hce hcv hcl hP hD hS ⟨_, _, rfl, rfl⟩ (Nat.le_of_ble_eq_true rfl) (Nat.le_of_ble_eq_true rfl)
    obtain ⟨r_66, srd_65, rfl, rfl, rfl⟩ := hq
    have hrun := moxr hrun
    have hP := hP.sub (ws' := ((cH k ah aw adr aim ard asc ath awl alo atr sh) ++ ((cW k au su) ++ (cR k ard srd_65)))) [2, 3, 4, 5, 6, 7, 8, 9, 10, 11, 0, 1] rfl
    have hD := hD.sub (ws' := ((cH k ah aw adr aim ard asc ath awl alo atr sh) ++ ((cW k au su) ++ (cR k ard srd_65)))) [2, 3, 4, 5, 6, 7, 8, 9, 10, 11, 0, 1] (by decide) rfl
    refine va_putN (ci := 2) (v := .int r_66) (ty := tyX2 8) (C := RX2) (T := TX2) (N := 21) hx hb hts in_X2 tyX2 tyX2_ok nmX2 hown hK hP hD hS 1 rfl rfl 8 (by decide) (va_Nw.use rfl (hN _ (zN_of q181 rfl))) (fun _ h9 => h9) rfl (tyX2_ok 8 (by decide)) rfl rfl (Nat.le_of_ble_eq_true rfl) dX1_houseLine_376 (fun H locs hP hD hS => ?_)
    have hP : va_P D zCl ((cH k ah aw adr aim ard asc ath awl alo atr sh) ++ ((cW k au (wd_s_bore su r_66)) ++ (cR k ard srd_65))) _ := hP
    have hD : va_D A ((cH k ah aw adr aim ard asc ath awl alo atr sh) ++ ((cW k au (wd_s_bore su r_66)) ++ (cR k ard srd_65))) := hD
    obtain ⟨su_69, esu_69⟩ : ∃ z : Wd, z = (wd_s_bore su r_66) := ⟨_, rfl⟩
    rw [← esu_69] at hP hD
    have hrun := mlt_s hrun su_69 esu_69
    cases hrun
    refine W.widen (k := 50) (n := 8030) (Nat.le_of_ble_eq_true rfl) (Nat.le_of_ble_eq_true rfl) ?_
    exact vx_ret (retW_v hx hb hr hlocks hP hD hS ⟨_, _, rfl, rfl, rfl⟩ dX1_houseLine_379)
  have hrun := mif_n c_62 hrun
  by_cases c_70 : x4 = (8 : Int32)
  · have hrun := mif_p c_70 hrun
    refine lv_tableIn (off := 143) (tgt := 380) hx hb dX1_houseLine_237 (by rw [c_70]; decide) (by rw [c_70]; decide) (by rw [c_70]; rfl) (by decide) ?_
    refine lv_aload_n hx hb dX1_houseLine_380 rfl (lv_at hl 1 rfl) ?_
    refine lv_aload_n hx hb dX1_houseLine_381 rfl (lv_at hl 2 rfl) ?_
    refine lv_iconst (v := (0 : Int32)) hx hb dX1_houseLine_382 (by decide) ?_
    refine lv_sipush (v := (999 : Int32)) hx hb dX1_houseLine_383 (by decide) ?_
    obtain ⟨o_72, hc_71, hrun⟩ := mox_s rfl hrun
    have hP := hP.sub (ws' := ([] ++ ((cR k ard srd) ++ ((cH k ah aw adr aim ard asc ath awl alo atr sh) ++ (cW k au su))))) [10, 11, 0, 1, 2, 3, 4, 5, 6, 7, 8, 9] rfl
    have hD := hD.sub (ws' := ([] ++ ((cR k ard srd) ++ ((cH k ah aw adr aim ard asc ath awl alo atr sh) ++ (cW k au su))))) [10, 11, 0, 1, 2, 3, 4, 5, 6, 7, 8, 9] (by decide) rfl
    refine cXV [] (cR k ard srd) ((cH k ah aw adr aim ard asc ath awl alo atr sh) ++ (cW k au su)) (As := [.int (0 : Int32), .int (999 : Int32)]) (ci := 3) ⟨hx, hb, hml, hown, hts⟩ hOK hz hS hA hP hD (mtX3_number l D k ard Z hOK hlt hTh _ _ _ o_72 hc_71) (kX3_number hts q1232 rfl rfl ⟨Nat.le_of_ble_eq_true rfl, Nat.le_of_ble_eq_true rfl⟩) 0 rfl rfl rfl hl.1 rfl (lv_room (Nat.le_of_ble_eq_true rfl)) ⟨Nat.le_of_ble_eq_true rfl, Nat.le_of_ble_eq_true rfl⟩ dX1_houseLine_386 (fun E_ w_ ce_ q9_ H locs hq hP hD hS hce hcv hcl => ?_) (fun r_ w_ H locs hq hP hD hS => ?_)
    · obtain ⟨srd_73x, rfl, rfl⟩ := hq
      have hrun := moxl hrun
      cases hrun
      have hP := hP.sub (ws' := ((cH k ah aw adr aim ard asc ath awl alo atr sh) ++ ((cW k au su) ++ (cR k ard srd_73x)))) [2, 3, 4, 5, 6, 7, 8, 9, 10, 11, 0, 1] rfl
      have hD := hD.sub (ws' := ((cH k ah aw adr aim ard asc ath awl alo atr sh) ++ ((cW k au su) ++ (cR k ard srd_73x)))) [2, 3, 4, 5, 6, 7, 8, 9, 10, 11, 0, 1] (by decide) rfl
      exact zout hnoh hlocks hce hcv hcl hP hD hS ⟨_, _, rfl, rfl⟩ (Nat.le_of_ble_eq_true rfl) (Nat.le_of_ble_eq_true rfl)
    obtain ⟨r_74, srd_73, rfl, rfl, rfl⟩ := hq
    have hrun := moxr hrun
    have hP := hP.sub (ws' := ((cH k ah aw adr aim ard asc ath awl alo atr sh) ++ ((cW k au su) ++ (cR k ard srd_73)))) [2, 3, 4, 5, 6, 7, 8, 9, 10, 11, 0, 1] rfl
    have hD := hD.sub (ws' := ((cH k ah aw adr aim ard asc ath awl alo atr sh) ++ ((cW k au su) ++ (cR k ard srd_73)))) [2, 3, 4, 5, 6, 7, 8, 9, 10, 11, 0, 1] (by decide) rfl
    refine va_putN (ci := 2) (v := .int r_74) (ty := tyX2 2) (C := RX2) (T := TX2) (N := 21) hx hb hts in_X2 tyX2 tyX2_ok nmX2 hown hK hP hD hS 1 rfl rfl 2 (by decide) (va_Nw.use rfl (hN _ (zN_of q168 rfl))) (fun _ h9 => h9) rfl (tyX2_ok 2 (by decide)) rfl rfl (Nat.le_of_ble_eq_true rfl) dX1_houseLine_389 (fun H locs hP hD hS => ?_)
    have hP : va_P D zCl ((cH k ah aw adr aim ard asc ath awl alo atr sh) ++ ((cW k au (wd_s_day su r_74)) ++ (cR k ard srd_73))) _ := hP
    have hD : va_D A ((cH k ah aw adr aim ard asc ath awl alo atr sh) ++ ((cW k au (wd_s_day su r_74)) ++ (cR k ard srd_73))) := hD
    obtain ⟨su_77, esu_77⟩ : ∃ z : Wd, z = (wd_s_day su r_74) := ⟨_, rfl⟩
    rw [← esu_77] at hP hD
    have hrun := mlt_s hrun su_77 esu_77
    cases hrun
    refine W.widen (k := 50) (n := 8030) (Nat.le_of_ble_eq_true rfl) (Nat.le_of_ble_eq_true rfl) ?_
    exact vx_ret (retW_v hx hb hr hlocks hP hD hS ⟨_, _, rfl, rfl, rfl⟩ dX1_houseLine_392)
  have hrun := mif_n c_70 hrun
  refine lv_tableOut (tgt := 393) hx hb dX1_houseLine_237 (tOut x4 8 (fun k hk => match k, hk with | 0, _ => c_1 | 1, _ => c_8 | 2, _ => c_15 | 3, _ => c_23 | 4, _ => c_38 | 5, _ => c_46 | 6, _ => c_54 | 7, _ => c_62 | 8, _ => c_70 | k + 9, hk => absurd hk (by omega))) (by decide) ?_
  refine lv_aload_n hx hb dX1_houseLine_393 rfl (lv_at hl 2 rfl) ?_
  cases hrun
  have hP : va_P D zCl (((cH k ah aw adr aim ard asc ath awl alo atr sh) ++ (cW k au su)) ++ ((cR k ard srd) ++ [])) _ := hP
  have hD : va_D A (((cH k ah aw adr aim ard asc ath awl alo atr sh) ++ (cW k au su)) ++ ((cR k ard srd) ++ [])) := hD
  refine cWV ((cH k ah aw adr aim ard asc ath awl alo atr sh) ++ (cW k au su)) (cR k ard srd) [] (As := []) (ci := 3) ⟨hx, hb, hml, hown, hts⟩ hOK hz hS hA hP hD (mtX3_wrongR l D k Z hOK hTh ard srd) (kX3_wrong hts q1113 rfl rfl ⟨Nat.le_of_ble_eq_true rfl, Nat.le_of_ble_eq_true rfl⟩) 0 rfl rfl rfl hl.1 rfl (lv_room (Nat.le_of_ble_eq_true rfl)) ⟨(Nat.le_of_ble_eq_true rfl), (Nat.le_of_ble_eq_true rfl)⟩ dX1_houseLine_394 (fun r_ w_ H locs hq hP hD hS => ?_)
  obtain ⟨qw_, rfl, rfl⟩ := hq
  obtain ⟨ce_, hce_, hcv_, hcl_⟩ := zWr hK hP 12 rfl
  refine vx_athrow hx hb dX1_houseLine_397 ?_
  have hP := hP.sub (ws' := ((cH k ah aw adr aim ard asc ath awl alo atr sh) ++ ((cW k au su) ++ (cR k ard srd)))) [0, 1, 2, 3, 4, 5, 6, 7, 8, 9, 10, 11] rfl
  have hD := hD.sub (ws' := ((cH k ah aw adr aim ard asc ath awl alo atr sh) ++ ((cW k au su) ++ (cR k ard srd)))) [0, 1, 2, 3, 4, 5, 6, 7, 8, 9, 10, 11] (by decide) rfl
  exact zout hnoh hlocks hce_ hcv_ hcl_ hP hD hS ⟨_, _, rfl, rfl⟩ (Nat.le_of_ble_eq_true rfl) (Nat.le_of_ble_eq_true rfl)
