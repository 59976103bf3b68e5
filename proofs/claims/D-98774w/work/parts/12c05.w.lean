/-! walks: X1_shut, X1_riskOf, X1_keenest, X1_alike, X1_well -/
def rX1_shut : Room := { frames := 2, cells := 0, slots := 0, locals := 43 }
noncomputable def fX1_shut_L8 (sh : Kp) (sw : Wd) : Nat → Int32 → Int32 → Option (Int32)
  | 0, _, _ => none
  | n + 1, x1_2, x2_3 =>
    if x2_3 < (0 : Int32) then
      some x1_2
    else
      mob (fJ16_bitCount x2_3) fun r_6 =>
      mob (fJ16_bitCount x1_2) fun r_8 =>
      if r_8 < r_6 then
        fX1_shut_L8 sh sw n x1_2 (x2_3 + (-1 : Int32))
      else
        mob (fX1_areShut sh sw x2_3) fun r_11 =>
        if r_11 = true then
          fX1_shut_L8 sh sw n x2_3 (x2_3 + (-1 : Int32))
        else
          fX1_shut_L8 sh sw n x1_2 (x2_3 + (-1 : Int32))
noncomputable def fX1_shut (sh : Kp) (sw : Wd) : Option (Int32) :=
  fX1_shut_L8 sh sw mFU (255 : Int32) (254 : Int32)
theorem kX1_shut {R : Room} {s : State} {args : Array Value} {own : String} {idx mc ms : Nat} {rm : Room} (hts : ∀ w ∈ lw_all, w.before args s = true) (hl : Cond.methodLink own idx yX1_shut ∈ lw_all) (hrc : rm.cells = mc) (hrs : rm.slots = ms) (hR : rm.frames + 1 ≤ R.frames ∧ 8 + (3 + 11) + rm.locals ≤ R.locals) : CallW R s args own RX1 idx yX1_shut cX1_shut 3 (some .int) (ws_ yX1_shut cX1_shut 3 (some .int)) rm mc ms 0 :=
  cwV 0 hts (lw_V hl q606 q607 q107 q608) rfl hrc hrs (by decide +kernel) hR
set_option maxHeartbeats 4000000 in
set_option maxRecDepth 100000 in
theorem mtX1_shut (l : Launch) (D : va_G) (k : Nat → ClassId) (ah : Nat → Nat) (aw : Nat → Nat) (adr : Nat → Nat) (aim : Nat → Nat) (ard : Nat → Nat) (asc : Nat → Nat) (ath : Nat → Nat) (awl : Nat → Nat) (alo : Nat → Nat) (atr : Nat → Nat) (Z : zZ) (hOK : zOK D zCl (zTys k) Z) (sh : Kp) (sw : Wd) (r : Int32) (hrun : fX1_shut sh sw = some r) :
    CtR l yX1_shut cX1_shut 3 (some .int) rX1_shut Z D zCl ((cH k ah aw adr aim ard asc ath awl alo atr sh) ++ (cW k aw sw)) [.ref (ah 0)] (some (.int r)) := by
  refine CtR.of (by decide) (Nat.le_of_ble_eq_true rfl) ?_
  intro p e s m args below meth c hE hP hz ls hl
  obtain ⟨hx, hb, hr, hml, hown, hts, hlocks, hname⟩ := hE
  have hown : s.vm.findClass RX1 = some m.cls := hown
  have hK := hOK.1 _ _ _ hz
  have hN := hOK.2.1 _ _ _ hz
  have hl : lv_has ls 3 [(0, .ref (ah 0))] := hl
  unfold fX1_shut at hrun
  refine lv_sipush (v := (255 : Int32)) hx hb dX1_shut_0 (by decide) ?_
  refine lv_istore_n (lv' := [(1, .int (255 : Int32)), (0, .ref (ah 0))]) hx hb dX1_shut_3 rfl hl (by decide) rfl (fun ls hl => ?_)
  refine lv_sipush (v := (254 : Int32)) hx hb dX1_shut_4 (by decide) ?_
  refine lv_istore_n (lv' := [(2, .int (254 : Int32)), (1, .int (255 : Int32)), (0, .ref (ah 0))]) hx hb dX1_shut_7 rfl hl (by decide) rfl (fun ls hl => ?_)
  have hL_1 : ∀ n : Nat, ∀ (x1_2 : Int32) (x2_3 : Int32), ∀ ls : Array Slot, lv_has ls 3 [(0, .ref (ah 0)), (1, .int x1_2), (2, .int x2_3)] → fX1_shut_L8 sh sw n x1_2 x2_3 = some r → W p l e rX1_shut s m args below meth c s.heap [] 0 0 (MQ below (QRr (some (.int r))) args s 0 0 (fun _ => False)) (F0 m 8 ls []) := by
    intro n
    induction n with
    | zero =>
      intro x1_2 x2_3 ls hl hrun
      exact nomatch hrun
    | succ n ih =>
      intro x1_2 x2_3 ls hl hrun
      rw [fX1_shut_L8.eq_2] at hrun
      refine lv_iload_n hx hb dX1_shut_8 rfl (lv_at hl 2 rfl) ?_
      refine lv_if_lt (tgt := 43) hx hb dX1_shut_9 (by decide) (fun c_4 => ?_) (fun c_4 => ?_)
      · have hrun := mif_p c_4 hrun
        refine lv_iload_n hx hb dX1_shut_43 rfl (lv_at hl 1 rfl) ?_
        cases hrun
        exact retR_i hx hb hr hlocks rfl dX1_shut_44
      have hrun := mif_n c_4 hrun
      refine lv_iload_n hx hb dX1_shut_12 rfl (lv_at hl 2 rfl) ?_
      obtain ⟨r_6, hc_5, hrun⟩ := mob_s rfl hrun
      refine cRS (ws := []) (As := [.int x2_3]) ⟨hx, hb, hml, hown, hts⟩ hOK hz va_S.rf zP0 (mtJ16_bitCount l D Z hOK _ _ hc_5) (kJ16_bitCount hts q456 rfl rfl ⟨Nat.le_of_ble_eq_true rfl, Nat.le_of_ble_eq_true rfl⟩) rfl hl.1 rfl (lv_room (Nat.le_of_ble_eq_true rfl)) ⟨Nat.le_of_ble_eq_true rfl, Nat.le_of_ble_eq_true rfl⟩ dX1_shut_13 ?_
      refine lv_iload_n hx hb dX1_shut_16 rfl (lv_at hl 1 rfl) ?_
      obtain ⟨r_8, hc_7, hrun⟩ := mob_s rfl hrun
      refine cRS (ws := []) (As := [.int x1_2]) ⟨hx, hb, hml, hown, hts⟩ hOK hz va_S.rf zP0 (mtJ16_bitCount l D Z hOK _ _ hc_7) (kJ16_bitCount hts q456 rfl rfl ⟨Nat.le_of_ble_eq_true rfl, Nat.le_of_ble_eq_true rfl⟩) rfl hl.1 rfl (lv_room (Nat.le_of_ble_eq_true rfl)) ⟨Nat.le_of_ble_eq_true rfl, Nat.le_of_ble_eq_true rfl⟩ dX1_shut_17 ?_
      refine lv_icmp_gt (tgt := 35) hx hb dX1_shut_20 (by decide) (fun c_9 => ?_) (fun c_9 => ?_)
      · have hrun := mif_p c_9 hrun
        refine lv_iload_n hx hb dX1_shut_35 rfl (lv_at hl 1 rfl) ?_
        refine lv_istore_n (lv' := [(1, .int x1_2), (0, .ref (ah 0)), (2, .int x2_3)]) hx hb dX1_shut_36 rfl hl (by decide) rfl (fun ls hl => ?_)
        refine lv_iinc (v := (x2_3 + (-1 : Int32))) (lv' := [(2, .int (x2_3 + (-1 : Int32))), (1, .int x1_2), (0, .ref (ah 0))]) hx hb dX1_shut_37 hl (k := 2) rfl rfl (by decide) rfl (fun ls hl => ?_)
        refine lv_goto (tgt := 8) hx hb dX1_shut_40 (by decide) ?_
        exact ih x1_2 (x2_3 + (-1 : Int32)) ls (lv_sub hl [2, 1, 0] rfl) hrun
      have hrun := mif_n c_9 hrun
      refine lv_aload_n hx hb dX1_shut_23 rfl (lv_at hl 0 rfl) ?_
      refine lv_iload_n hx hb dX1_shut_24 rfl (lv_at hl 2 rfl) ?_
      obtain ⟨r_11, hc_10, hrun⟩ := mob_s rfl hrun
      refine cRV (As := [.int x2_3]) (ci := 1) ⟨hx, hb, hml, hown, hts⟩ hOK hz va_S.rf hP (mtX1_areShut l D k ah aw adr aim ard asc ath awl alo atr Z hOK _ _ _ _ hc_10) (kX1_areShut hts q609 rfl rfl ⟨Nat.le_of_ble_eq_true rfl, Nat.le_of_ble_eq_true rfl⟩) 0 rfl rfl rfl hl.1 rfl (lv_room (Nat.le_of_ble_eq_true rfl)) ⟨Nat.le_of_ble_eq_true rfl, Nat.le_of_ble_eq_true rfl⟩ dX1_shut_25 ?_
      refine lv_if_eq (tgt := 35) hx hb dX1_shut_28 (by decide) (fun c_12 => ?_) (fun c_12 => ?_)
      · have hrun := mif_n (bz_z c_12) hrun
        refine lv_iload_n hx hb dX1_shut_35 rfl (lv_at hl 1 rfl) ?_
        refine lv_istore_n (lv' := [(1, .int x1_2), (0, .ref (ah 0)), (2, .int x2_3)]) hx hb dX1_shut_36 rfl hl (by decide) rfl (fun ls hl => ?_)
        refine lv_iinc (v := (x2_3 + (-1 : Int32))) (lv' := [(2, .int (x2_3 + (-1 : Int32))), (1, .int x1_2), (0, .ref (ah 0))]) hx hb dX1_shut_37 hl (k := 2) rfl rfl (by decide) rfl (fun ls hl => ?_)
        refine lv_goto (tgt := 8) hx hb dX1_shut_40 (by decide) ?_
        exact ih x1_2 (x2_3 + (-1 : Int32)) ls (lv_sub hl [2, 1, 0] rfl) hrun
      have hrun := mif_p (bz_nz c_12) hrun
      refine lv_iload_n hx hb dX1_shut_31 rfl (lv_at hl 2 rfl) ?_
      refine lv_goto (tgt := 36) hx hb dX1_shut_32 (by decide) ?_
      refine lv_istore_n (lv' := [(1, .int x2_3), (0, .ref (ah 0)), (2, .int x2_3)]) hx hb dX1_shut_36 rfl hl (by decide) rfl (fun ls hl => ?_)
      refine lv_iinc (v := (x2_3 + (-1 : Int32))) (lv' := [(2, .int (x2_3 + (-1 : Int32))), (1, .int x2_3), (0, .ref (ah 0))]) hx hb dX1_shut_37 hl (k := 2) rfl rfl (by decide) rfl (fun ls hl => ?_)
      refine lv_goto (tgt := 8) hx hb dX1_shut_40 (by decide) ?_
      exact ih x2_3 (x2_3 + (-1 : Int32)) ls (lv_sub hl [2, 1, 0] rfl) hrun
  exact hL_1 mFU (255 : Int32) (254 : Int32) ls (lv_sub hl [2, 1, 0] rfl) hrun
def rX1_riskOf : Room := { frames := 1, cells := 0, slots := 0, locals := 21 }
noncomputable def fX1_riskOf_L4 (sw : Wd) (p1 : Int32) : Nat → Int32 → Int32 → Option (Int32)
  | 0, _, _ => none
  | n + 1, x2_2, x3_3 =>
    if (wd_guests sw) ≤ x3_3 then
      some x2_2
    else
      mob (fX1_has p1 x3_3) fun r_6 =>
      if r_6 = true then
        mob (fX2_risk sw x3_3) fun r_9 =>
        fX1_riskOf_L4 sw p1 n (x2_2 + r_9) (x3_3 + (1 : Int32))
      else
        fX1_riskOf_L4 sw p1 n (x2_2 + (0 : Int32)) (x3_3 + (1 : Int32))
noncomputable def fX1_riskOf (sh : Kp) (sw : Wd) (p1 : Int32) : Option (Int32) :=
  fX1_riskOf_L4 sw p1 mFU (0 : Int32) (0 : Int32)
theorem kX1_riskOf {R : Room} {s : State} {args : Array Value} {own : String} {idx mc ms : Nat} {rm : Room} (hts : ∀ w ∈ lw_all, w.before args s = true) (hl : Cond.methodLink own idx yX1_riskOf ∈ lw_all) (hrc : rm.cells = mc) (hrs : rm.slots = ms) (hR : rm.frames + 1 ≤ R.frames ∧ 8 + (4 + 11) + rm.locals ≤ R.locals) : CallW R s args own RX1 idx yX1_riskOf cX1_riskOf 4 (some .int) (ws_ yX1_riskOf cX1_riskOf 4 (some .int)) rm mc ms 1 :=
  cwV 1 hts (lw_V hl q627 qs6 q107 q628) rfl hrc hrs (by decide +kernel) hR
set_option maxHeartbeats 4000000 in
set_option maxRecDepth 100000 in
theorem mtX1_riskOf (l : Launch) (D : va_G) (k : Nat → ClassId) (ah : Nat → Nat) (aw : Nat → Nat) (adr : Nat → Nat) (aim : Nat → Nat) (ard : Nat → Nat) (asc : Nat → Nat) (ath : Nat → Nat) (awl : Nat → Nat) (alo : Nat → Nat) (atr : Nat → Nat) (Z : zZ) (hOK : zOK D zCl (zTys k) Z) (sh : Kp) (sw : Wd) (p1 : Int32) (r : Int32) (hrun : fX1_riskOf sh sw p1 = some r) :
    CtR l yX1_riskOf cX1_riskOf 4 (some .int) rX1_riskOf Z D zCl ((cH k ah aw adr aim ard asc ath awl alo atr sh) ++ (cW k aw sw)) [.ref (ah 0), .int p1] (some (.int r)) := by
  refine CtR.of (by decide) (Nat.le_of_ble_eq_true rfl) ?_
  intro p e s m args below meth c hE hP hz ls hl
  obtain ⟨hx, hb, hr, hml, hown, hts, hlocks, hname⟩ := hE
  have hown : s.vm.findClass RX1 = some m.cls := hown
  have hK := hOK.1 _ _ _ hz
  have hN := hOK.2.1 _ _ _ hz
  have hl : lv_has ls 4 [(0, .ref (ah 0)), (1, .int p1)] := hl
  unfold fX1_riskOf at hrun
  refine lv_iconst (v := (0 : Int32)) hx hb dX1_riskOf_0 (by decide) ?_
  refine lv_istore_n (lv' := [(2, .int (0 : Int32)), (0, .ref (ah 0)), (1, .int p1)]) hx hb dX1_riskOf_1 rfl hl (by decide) rfl (fun ls hl => ?_)
  refine lv_iconst (v := (0 : Int32)) hx hb dX1_riskOf_2 (by decide) ?_
  refine lv_istore_n (lv' := [(3, .int (0 : Int32)), (2, .int (0 : Int32)), (0, .ref (ah 0)), (1, .int p1)]) hx hb dX1_riskOf_3 rfl hl (by decide) rfl (fun ls hl => ?_)
  have hL_1 : ∀ n : Nat, ∀ (x2_2 : Int32) (x3_3 : Int32), ∀ ls : Array Slot, lv_has ls 4 [(0, .ref (ah 0)), (1, .int p1), (2, .int x2_2), (3, .int x3_3)] → fX1_riskOf_L4 sw p1 n x2_2 x3_3 = some r → W p l e rX1_riskOf s m args below meth c s.heap [] 0 0 (MQ below (QRr (some (.int r))) args s 0 0 (fun _ => False)) (F0 m 4 ls []) := by
    intro n
    induction n with
    | zero =>
      intro x2_2 x3_3 ls hl hrun
      exact nomatch hrun
    | succ n ih =>
      intro x2_2 x3_3 ls hl hrun
      rw [fX1_riskOf_L4.eq_2] at hrun
      refine lv_iload_n hx hb dX1_riskOf_4 rfl (lv_at hl 3 rfl) ?_
      refine lv_aload_n hx hb dX1_riskOf_5 rfl (lv_at hl 0 rfl) ?_
      refine va_get (ci := 1) (v := .ref (aw 0)) (C := RX1) (T := TX1) (N := 10) hx hb hts in_X1 hown hK hP 0 rfl rfl 0 (by decide) (hts _ q370) (fun _ h9 => h9) rfl dX1_riskOf_6 ?_
      refine va_getN (ci := 2) (v := .int (wd_guests sw)) (C := RX2) (T := TX2) (N := 21) hx hb hts in_X2 hown hK hP 1 rfl rfl 1 (by decide) (va_Nw.use rfl (hN _ (zN_of q166 rfl))) (fun _ h9 => h9) rfl dX1_riskOf_9 ?_
      refine lv_icmp_ge (tgt := 44) hx hb dX1_riskOf_12 (by decide) (fun c_4 => ?_) (fun c_4 => ?_)
      · have hrun := mif_p c_4 hrun
        refine lv_iload_n hx hb dX1_riskOf_44 rfl (lv_at hl 2 rfl) ?_
        cases hrun
        exact retR_i hx hb hr hlocks rfl dX1_riskOf_45
      have hrun := mif_n c_4 hrun
      refine lv_iload_n hx hb dX1_riskOf_15 rfl (lv_at hl 2 rfl) ?_
      refine lv_iload_n hx hb dX1_riskOf_16 rfl (lv_at hl 1 rfl) ?_
      refine lv_iload_n hx hb dX1_riskOf_17 rfl (lv_at hl 3 rfl) ?_
      obtain ⟨r_6, hc_5, hrun⟩ := mob_s rfl hrun
      refine cRS (ws := []) (As := [.int p1, .int x3_3]) ⟨hx, hb, hml, hown, hts⟩ hOK hz va_S.rf zP0 (mtX1_has l D Z hOK _ _ _ hc_5) (kX1_has hts q586 rfl rfl ⟨Nat.le_of_ble_eq_true rfl, Nat.le_of_ble_eq_true rfl⟩) rfl hl.1 rfl (lv_room (Nat.le_of_ble_eq_true rfl)) ⟨Nat.le_of_ble_eq_true rfl, Nat.le_of_ble_eq_true rfl⟩ dX1_riskOf_18 ?_
      refine lv_if_eq (tgt := 35) hx hb dX1_riskOf_21 (by decide) (fun c_7 => ?_) (fun c_7 => ?_)
      · have hrun := mif_n (bz_z c_7) hrun
        refine lv_iconst (v := (0 : Int32)) hx hb dX1_riskOf_35 (by decide) ?_
        refine lv_iadd hx hb dX1_riskOf_36 ?_
        refine lv_istore_n (lv' := [(2, .int (x2_2 + (0 : Int32))), (0, .ref (ah 0)), (1, .int p1), (3, .int x3_3)]) hx hb dX1_riskOf_37 rfl hl (by decide) rfl (fun ls hl => ?_)
        refine lv_iinc (v := (x3_3 + (1 : Int32))) (lv' := [(3, .int (x3_3 + (1 : Int32))), (2, .int (x2_2 + (0 : Int32))), (0, .ref (ah 0)), (1, .int p1)]) hx hb dX1_riskOf_38 hl (k := 3) rfl rfl (by decide) rfl (fun ls hl => ?_)
        refine lv_goto (tgt := 4) hx hb dX1_riskOf_41 (by decide) ?_
        exact ih (x2_2 + (0 : Int32)) (x3_3 + (1 : Int32)) ls (lv_sub hl [2, 3, 1, 0] rfl) hrun
      have hrun := mif_p (bz_nz c_7) hrun
      refine lv_aload_n hx hb dX1_riskOf_24 rfl (lv_at hl 0 rfl) ?_
      refine va_get (ci := 1) (v := .ref (aw 0)) (C := RX1) (T := TX1) (N := 10) hx hb hts in_X1 hown hK hP 0 rfl rfl 0 (by decide) (hts _ q370) (fun _ h9 => h9) rfl dX1_riskOf_25 ?_
      refine lv_iload_n hx hb dX1_riskOf_28 rfl (lv_at hl 3 rfl) ?_
      obtain ⟨r_9, hc_8, hrun⟩ := mob_s rfl hrun
      refine cRV (As := [.int x3_3]) (ci := 2) ⟨hx, hb, hml, hown, hts⟩ hOK hz va_S.rf (hP.sub (ws' := (cW k aw sw)) [1, 2, 3, 4, 5, 6, 7, 8, 9] rfl) (mtX2_risk l D k aw Z hOK _ _ _ hc_8) (kX2_risk hts q587 rfl rfl ⟨Nat.le_of_ble_eq_true rfl, Nat.le_of_ble_eq_true rfl⟩) 0 rfl rfl rfl hl.1 rfl (lv_room (Nat.le_of_ble_eq_true rfl)) ⟨Nat.le_of_ble_eq_true rfl, Nat.le_of_ble_eq_true rfl⟩ dX1_riskOf_29 ?_
      refine lv_goto (tgt := 36) hx hb dX1_riskOf_32 (by decide) ?_
      refine lv_iadd hx hb dX1_riskOf_36 ?_
      refine lv_istore_n (lv' := [(2, .int (x2_2 + r_9)), (0, .ref (ah 0)), (1, .int p1), (3, .int x3_3)]) hx hb dX1_riskOf_37 rfl hl (by decide) rfl (fun ls hl => ?_)
      refine lv_iinc (v := (x3_3 + (1 : Int32))) (lv' := [(3, .int (x3_3 + (1 : Int32))), (2, .int (x2_2 + r_9)), (0, .ref (ah 0)), (1, .int p1)]) hx hb dX1_riskOf_38 hl (k := 3) rfl rfl (by decide) rfl (fun ls hl => ?_)
      refine lv_goto (tgt := 4) hx hb dX1_riskOf_41 (by decide) ?_
      exact ih (x2_2 + r_9) (x3_3 + (1 : Int32)) ls (lv_sub hl [2, 3, 1, 0] rfl) hrun
  exact hL_1 mFU (0 : Int32) (0 : Int32) ls (lv_sub hl [2, 3, 1, 0] rfl) hrun
def rX1_keenest : Room := { frames := 1, cells := 0, slots := 0, locals := 21 }
noncomputable def fX1_keenest_L4 (sw : Wd) : Nat → Int32 → Int32 → Option (Int32)
  | 0, _, _ => none
  | n + 1, x1_2, x2_3 =>
    if (wd_guests sw) ≤ x2_3 then
      some x1_2
    else
      mck x2_3 8 <|
      if ((wd_here sw) (Int32.toNatClampNeg x2_3)) = true then
        if x1_2 = (-1 : Int32) then
          fX1_keenest_L4 sw n x2_3 (x2_3 + (1 : Int32))
        else
          mob (fX2_risk sw x2_3) fun r_9 =>
          mob (fX2_risk sw x1_2) fun r_11 =>
          if r_9 ≤ r_11 then
            fX1_keenest_L4 sw n x1_2 (x2_3 + (1 : Int32))
          else
            fX1_keenest_L4 sw n x2_3 (x2_3 + (1 : Int32))
      else
        fX1_keenest_L4 sw n x1_2 (x2_3 + (1 : Int32))
noncomputable def fX1_keenest (sh : Kp) (sw : Wd) : Option (Int32) :=
  fX1_keenest_L4 sw mFU (-1 : Int32) (0 : Int32)
theorem kX1_keenest {R : Room} {s : State} {args : Array Value} {own : String} {idx mc ms : Nat} {rm : Room} (hts : ∀ w ∈ lw_all, w.before args s = true) (hl : Cond.methodLink own idx yX1_keenest ∈ lw_all) (hrc : rm.cells = mc) (hrs : rm.slots = ms) (hR : rm.frames + 1 ≤ R.frames ∧ 8 + (3 + 11) + rm.locals ≤ R.locals) : CallW R s args own RX1 idx yX1_keenest cX1_keenest 3 (some .int) (ws_ yX1_keenest cX1_keenest 3 (some .int)) rm mc ms 0 :=
  cwV 0 hts (lw_V hl q683 q684 q107 q685) rfl hrc hrs (by decide +kernel) hR
set_option maxHeartbeats 4000000 in
set_option maxRecDepth 100000 in
theorem mtX1_keenest (l : Launch) (D : va_G) (k : Nat → ClassId) (ah : Nat → Nat) (aw : Nat → Nat) (adr : Nat → Nat) (aim : Nat → Nat) (ard : Nat → Nat) (asc : Nat → Nat) (ath : Nat → Nat) (awl : Nat → Nat) (alo : Nat → Nat) (atr : Nat → Nat) (Z : zZ) (hOK : zOK D zCl (zTys k) Z) (sh : Kp) (sw : Wd) (r : Int32) (hrun : fX1_keenest sh sw = some r) :
    CtR l yX1_keenest cX1_keenest 3 (some .int) rX1_keenest Z D zCl ((cH k ah aw adr aim ard asc ath awl alo atr sh) ++ (cW k aw sw)) [.ref (ah 0)] (some (.int r)) := by
  refine CtR.of (by decide) (Nat.le_of_ble_eq_true rfl) ?_
  intro p e s m args below meth c hE hP hz ls hl
  obtain ⟨hx, hb, hr, hml, hown, hts, hlocks, hname⟩ := hE
  have hown : s.vm.findClass RX1 = some m.cls := hown
  have hK := hOK.1 _ _ _ hz
  have hN := hOK.2.1 _ _ _ hz
  have hl : lv_has ls 3 [(0, .ref (ah 0))] := hl
  unfold fX1_keenest at hrun
  refine lv_iconst (v := (-1 : Int32)) hx hb dX1_keenest_0 (by decide) ?_
  refine lv_istore_n (lv' := [(1, .int (-1 : Int32)), (0, .ref (ah 0))]) hx hb dX1_keenest_1 rfl hl (by decide) rfl (fun ls hl => ?_)
  refine lv_iconst (v := (0 : Int32)) hx hb dX1_keenest_2 (by decide) ?_
  refine lv_istore_n (lv' := [(2, .int (0 : Int32)), (1, .int (-1 : Int32)), (0, .ref (ah 0))]) hx hb dX1_keenest_3 rfl hl (by decide) rfl (fun ls hl => ?_)
  have hL_1 : ∀ n : Nat, ∀ (x1_2 : Int32) (x2_3 : Int32), ∀ ls : Array Slot, lv_has ls 3 [(0, .ref (ah 0)), (1, .int x1_2), (2, .int x2_3)] → fX1_keenest_L4 sw n x1_2 x2_3 = some r → W p l e rX1_keenest s m args below meth c s.heap [] 0 0 (MQ below (QRr (some (.int r))) args s 0 0 (fun _ => False)) (F0 m 4 ls []) := by
    intro n
    induction n with
    | zero =>
      intro x1_2 x2_3 ls hl hrun
      exact nomatch hrun
    | succ n ih =>
      intro x1_2 x2_3 ls hl hrun
      rw [fX1_keenest_L4.eq_2] at hrun
      refine lv_iload_n hx hb dX1_keenest_4 rfl (lv_at hl 2 rfl) ?_
      refine lv_aload_n hx hb dX1_keenest_5 rfl (lv_at hl 0 rfl) ?_
      refine va_get (ci := 1) (v := .ref (aw 0)) (C := RX1) (T := TX1) (N := 10) hx hb hts in_X1 hown hK hP 0 rfl rfl 0 (by decide) (hts _ q370) (fun _ h9 => h9) rfl dX1_keenest_6 ?_
      refine va_getN (ci := 2) (v := .int (wd_guests sw)) (C := RX2) (T := TX2) (N := 21) hx hb hts in_X2 hown hK hP 1 rfl rfl 1 (by decide) (va_Nw.use rfl (hN _ (zN_of q166 rfl))) (fun _ h9 => h9) rfl dX1_keenest_9 ?_
      refine lv_icmp_ge (tgt := 59) hx hb dX1_keenest_12 (by decide) (fun c_4 => ?_) (fun c_4 => ?_)
      · have hrun := mif_p c_4 hrun
        refine lv_iload_n hx hb dX1_keenest_59 rfl (lv_at hl 1 rfl) ?_
        cases hrun
        exact retR_i hx hb hr hlocks rfl dX1_keenest_60
      have hrun := mif_n c_4 hrun
      refine lv_aload_n hx hb dX1_keenest_15 rfl (lv_at hl 0 rfl) ?_
      refine va_get (ci := 1) (v := .ref (aw 0)) (C := RX1) (T := TX1) (N := 10) hx hb hts in_X1 hown hK hP 0 rfl rfl 0 (by decide) (hts _ q370) (fun _ h9 => h9) rfl dX1_keenest_16 ?_
      refine va_getN (ci := 2) (v := .ref (aw 6)) (C := RX2) (T := TX2) (N := 21) hx hb hts in_X2 hown hK hP 1 rfl rfl 17 (by decide) (va_Nw.use rfl (hN _ (zN_of q202 rfl))) (fun _ h9 => h9) rfl dX1_keenest_19 ?_
      refine lv_iload_n hx hb dX1_keenest_22 rfl (lv_at hl 2 rfl) ?_
      obtain ⟨hb_5, hrun⟩ := mck_s rfl hrun
      refine va_zald hx hb hK hP 7 1 rfl rfl hb_5 dX1_keenest_23 ?_
      refine lv_if_eq (tgt := 53) hx hb dX1_keenest_24 (by decide) (fun c_6 => ?_) (fun c_6 => ?_)
      · have hrun := mif_n (bz_z c_6) hrun
        refine lv_iinc (v := (x2_3 + (1 : Int32))) (lv' := [(2, .int (x2_3 + (1 : Int32))), (0, .ref (ah 0)), (1, .int x1_2)]) hx hb dX1_keenest_53 hl (k := 2) rfl rfl (by decide) rfl (fun ls hl => ?_)
        refine lv_goto (tgt := 4) hx hb dX1_keenest_56 (by decide) ?_
        exact ih x1_2 (x2_3 + (1 : Int32)) ls (lv_sub hl [1, 2, 0] rfl) hrun
      have hrun := mif_p (bz_nz c_6) hrun
      refine lv_iload_n hx hb dX1_keenest_27 rfl (lv_at hl 1 rfl) ?_
      refine lv_iconst (v := (-1 : Int32)) hx hb dX1_keenest_28 (by decide) ?_
      refine lv_icmp_eq (tgt := 51) hx hb dX1_keenest_29 (by decide) (fun c_7 => ?_) (fun c_7 => ?_)
      · have hrun := mif_p c_7 hrun
        refine lv_iload_n hx hb dX1_keenest_51 rfl (lv_at hl 2 rfl) ?_
        refine lv_istore_n (lv' := [(1, .int x2_3), (0, .ref (ah 0)), (2, .int x2_3)]) hx hb dX1_keenest_52 rfl hl (by decide) rfl (fun ls hl => ?_)
        refine lv_iinc (v := (x2_3 + (1 : Int32))) (lv' := [(2, .int (x2_3 + (1 : Int32))), (1, .int x2_3), (0, .ref (ah 0))]) hx hb dX1_keenest_53 hl (k := 2) rfl rfl (by decide) rfl (fun ls hl => ?_)
        refine lv_goto (tgt := 4) hx hb dX1_keenest_56 (by decide) ?_
        exact ih x2_3 (x2_3 + (1 : Int32)) ls (lv_sub hl [2, 1, 0] rfl) hrun
      have hrun := mif_n c_7 hrun
      refine lv_aload_n hx hb dX1_keenest_32 rfl (lv_at hl 0 rfl) ?_
      refine va_get (ci := 1) (v := .ref (aw 0)) (C := RX1) (T := TX1) (N := 10) hx hb hts in_X1 hown hK hP 0 rfl rfl 0 (by decide) (hts _ q370) (fun _ h9 => h9) rfl dX1_keenest_33 ?_
      refine lv_iload_n hx hb dX1_keenest_36 rfl (lv_at hl 2 rfl) ?_
      obtain ⟨r_9, hc_8, hrun⟩ := mob_s rfl hrun
      refine cRV (As := [.int x2_3]) (ci := 2) ⟨hx, hb, hml, hown, hts⟩ hOK hz va_S.rf (hP.sub (ws' := (cW k aw sw)) [1, 2, 3, 4, 5, 6, 7, 8, 9] rfl) (mtX2_risk l D k aw Z hOK _ _ _ hc_8) (kX2_risk hts q587 rfl rfl ⟨Nat.le_of_ble_eq_true rfl, Nat.le_of_ble_eq_true rfl⟩) 0 rfl rfl rfl hl.1 rfl (lv_room (Nat.le_of_ble_eq_true rfl)) ⟨Nat.le_of_ble_eq_true rfl, Nat.le_of_ble_eq_true rfl⟩ dX1_keenest_37 ?_
      refine lv_aload_n hx hb dX1_keenest_40 rfl (lv_at hl 0 rfl) ?_
      refine va_get (ci := 1) (v := .ref (aw 0)) (C := RX1) (T := TX1) (N := 10) hx hb hts in_X1 hown hK hP 0 rfl rfl 0 (by decide) (hts _ q370) (fun _ h9 => h9) rfl dX1_keenest_41 ?_
      refine lv_iload_n hx hb dX1_keenest_44 rfl (lv_at hl 1 rfl) ?_
      obtain ⟨r_11, hc_10, hrun⟩ := mob_s rfl hrun
      refine cRV (As := [.int x1_2]) (ci := 2) ⟨hx, hb, hml, hown, hts⟩ hOK hz va_S.rf (hP.sub (ws' := (cW k aw sw)) [1, 2, 3, 4, 5, 6, 7, 8, 9] rfl) (mtX2_risk l D k aw Z hOK _ _ _ hc_10) (kX2_risk hts q587 rfl rfl ⟨Nat.le_of_ble_eq_true rfl, Nat.le_of_ble_eq_true rfl⟩) 0 rfl rfl rfl hl.1 rfl (lv_room (Nat.le_of_ble_eq_true rfl)) ⟨Nat.le_of_ble_eq_true rfl, Nat.le_of_ble_eq_true rfl⟩ dX1_keenest_45 ?_
      refine lv_icmp_le (tgt := 53) hx hb dX1_keenest_48 (by decide) (fun c_12 => ?_) (fun c_12 => ?_)
      · have hrun := mif_p c_12 hrun
        refine lv_iinc (v := (x2_3 + (1 : Int32))) (lv' := [(2, .int (x2_3 + (1 : Int32))), (0, .ref (ah 0)), (1, .int x1_2)]) hx hb dX1_keenest_53 hl (k := 2) rfl rfl (by decide) rfl (fun ls hl => ?_)
        refine lv_goto (tgt := 4) hx hb dX1_keenest_56 (by decide) ?_
        exact ih x1_2 (x2_3 + (1 : Int32)) ls (lv_sub hl [1, 2, 0] rfl) hrun
      have hrun := mif_n c_12 hrun
      refine lv_iload_n hx hb dX1_keenest_51 rfl (lv_at hl 2 rfl) ?_
      refine lv_istore_n (lv' := [(1, .int x2_3), (0, .ref (ah 0)), (2, .int x2_3)]) hx hb dX1_keenest_52 rfl hl (by decide) rfl (fun ls hl => ?_)
      refine lv_iinc (v := (x2_3 + (1 : Int32))) (lv' := [(2, .int (x2_3 + (1 : Int32))), (1, .int x2_3), (0, .ref (ah 0))]) hx hb dX1_keenest_53 hl (k := 2) rfl rfl (by decide) rfl (fun ls hl => ?_)
      refine lv_goto (tgt := 4) hx hb dX1_keenest_56 (by decide) ?_
      exact ih x2_3 (x2_3 + (1 : Int32)) ls (lv_sub hl [2, 1, 0] rfl) hrun
  exact hL_1 mFU (-1 : Int32) (0 : Int32) ls (lv_sub hl [2, 1, 0] rfl) hrun
def rX1_alike : Room := { frames := 0, cells := 0, slots := 0, locals := 0 }
noncomputable def fX1_alike_L19 (sw : Wd) (K_7 : Int32 → Option (Int32)) (x2_3 : Int32) : Nat → Int32 → Int32 → Option (Int32)
  | 0, _, _ => none
  | n + 1, x1_9, x3_10 =>
    if (wd_guests sw) ≤ x3_10 then
      K_7 x1_9
    else
      mck x2_3 8 <|
      mck x3_10 8 <|
      if ((wd_wish sw) (Int32.toNatClampNeg x2_3)) = ((wd_wish sw) (Int32.toNatClampNeg x3_10)) then
        mck x2_3 8 <|
        mck x3_10 8 <|
        if ((wd_room sw) (Int32.toNatClampNeg x2_3)) = ((wd_room sw) (Int32.toNatClampNeg x3_10)) then
          fX1_alike_L19 sw K_7 x2_3 n (x1_9 + (1 : Int32)) (x3_10 + (1 : Int32))
        else
          fX1_alike_L19 sw K_7 x2_3 n (x1_9 + (0 : Int32)) (x3_10 + (1 : Int32))
      else
        fX1_alike_L19 sw K_7 x2_3 n (x1_9 + (0 : Int32)) (x3_10 + (1 : Int32))
noncomputable def fX1_alike_L4 (sw : Wd) : Nat → Int32 → Int32 → Option (Int32)
  | 0, _, _ => none
  | n + 1, x1_2, x2_3 =>
    if (wd_guests sw) ≤ x2_3 then
      some x1_2
    else
      mjn (fun (x1_6 : Int32) =>
      fX1_alike_L4 sw n x1_6 (x2_3 + (1 : Int32))) fun K_7 =>
      fX1_alike_L19 sw K_7 x2_3 mFU x1_2 (x2_3 + (1 : Int32))
noncomputable def fX1_alike (sh : Kp) (sw : Wd) : Option (Int32) :=
  fX1_alike_L4 sw mFU (0 : Int32) (0 : Int32)
theorem kX1_alike {R : Room} {s : State} {args : Array Value} {own : String} {idx mc ms : Nat} {rm : Room} (hts : ∀ w ∈ lw_all, w.before args s = true) (hl : Cond.methodLink own idx yX1_alike ∈ lw_all) (hrc : rm.cells = mc) (hrs : rm.slots = ms) (hR : rm.frames + 1 ≤ R.frames ∧ 8 + (4 + 11) + rm.locals ≤ R.locals) : CallW R s args own RX1 idx yX1_alike cX1_alike 4 (some .int) (ws_ yX1_alike cX1_alike 4 (some .int)) rm mc ms 0 :=
  cwV 0 hts (lw_V hl q687 q688 q107 q689) rfl hrc hrs (by decide +kernel) hR
set_option maxHeartbeats 4000000 in
set_option maxRecDepth 100000 in
theorem mtX1_alike (l : Launch) (D : va_G) (k : Nat → ClassId) (ah : Nat → Nat) (aw : Nat → Nat) (adr : Nat → Nat) (aim : Nat → Nat) (ard : Nat → Nat) (asc : Nat → Nat) (ath : Nat → Nat) (awl : Nat → Nat) (alo : Nat → Nat) (atr : Nat → Nat) (Z : zZ) (hOK : zOK D zCl (zTys k) Z) (sh : Kp) (sw : Wd) (r : Int32) (hrun : fX1_alike sh sw = some r) :
    CtR l yX1_alike cX1_alike 4 (some .int) rX1_alike Z D zCl ((cH k ah aw adr aim ard asc ath awl alo atr sh) ++ (cW k aw sw)) [.ref (ah 0)] (some (.int r)) := by
  refine CtR.of (by decide) (Nat.le_of_ble_eq_true rfl) ?_
  intro p e s m args below meth c hE hP hz ls hl
  obtain ⟨hx, hb, hr, hml, hown, hts, hlocks, hname⟩ := hE
  have hown : s.vm.findClass RX1 = some m.cls := hown
  have hK := hOK.1 _ _ _ hz
  have hN := hOK.2.1 _ _ _ hz
  have hl : lv_has ls 4 [(0, .ref (ah 0))] := hl
  unfold fX1_alike at hrun
  refine lv_iconst (v := (0 : Int32)) hx hb dX1_alike_0 (by decide) ?_
  refine lv_istore_n (lv' := [(1, .int (0 : Int32)), (0, .ref (ah 0))]) hx hb dX1_alike_1 rfl hl (by decide) rfl (fun ls hl => ?_)
  refine lv_iconst (v := (0 : Int32)) hx hb dX1_alike_2 (by decide) ?_
  refine lv_istore_n (lv' := [(2, .int (0 : Int32)), (1, .int (0 : Int32)), (0, .ref (ah 0))]) hx hb dX1_alike_3 rfl hl (by decide) rfl (fun ls hl => ?_)
  have hL_1 : ∀ n : Nat, ∀ (x1_2 : Int32) (x2_3 : Int32), ∀ ls : Array Slot, lv_has ls 4 [(0, .ref (ah 0)), (1, .int x1_2), (2, .int x2_3)] → fX1_alike_L4 sw n x1_2 x2_3 = some r → W p l e rX1_alike s m args below meth c s.heap [] 0 0 (MQ below (QRr (some (.int r))) args s 0 0 (fun _ => False)) (F0 m 4 ls []) := by
    intro n
    induction n with
    | zero =>
      intro x1_2 x2_3 ls hl hrun
      exact nomatch hrun
    | succ n ih =>
      intro x1_2 x2_3 ls hl hrun
      rw [fX1_alike_L4.eq_2] at hrun
      refine lv_iload_n hx hb dX1_alike_4 rfl (lv_at hl 2 rfl) ?_
      refine lv_aload_n hx hb dX1_alike_5 rfl (lv_at hl 0 rfl) ?_
      refine va_get (ci := 1) (v := .ref (aw 0)) (C := RX1) (T := TX1) (N := 10) hx hb hts in_X1 hown hK hP 0 rfl rfl 0 (by decide) (hts _ q370) (fun _ h9 => h9) rfl dX1_alike_6 ?_
      refine va_getN (ci := 2) (v := .int (wd_guests sw)) (C := RX2) (T := TX2) (N := 21) hx hb hts in_X2 hown hK hP 1 rfl rfl 1 (by decide) (va_Nw.use rfl (hN _ (zN_of q166 rfl))) (fun _ h9 => h9) rfl dX1_alike_9 ?_
      refine lv_icmp_ge (tgt := 92) hx hb dX1_alike_12 (by decide) (fun c_4 => ?_) (fun c_4 => ?_)
      · have hrun := mif_p c_4 hrun
        refine lv_iload_n hx hb dX1_alike_92 rfl (lv_at hl 1 rfl) ?_
        cases hrun
        exact retR_i hx hb hr hlocks rfl dX1_alike_93
      have hrun := mif_n c_4 hrun
      refine lv_iload_n hx hb dX1_alike_15 rfl (lv_at hl 2 rfl) ?_
      refine lv_iconst (v := (1 : Int32)) hx hb dX1_alike_16 (by decide) ?_
      refine lv_iadd hx hb dX1_alike_17 ?_
      refine lv_istore_n (lv' := [(3, .int (x2_3 + (1 : Int32))), (0, .ref (ah 0)), (1, .int x1_2), (2, .int x2_3)]) hx hb dX1_alike_18 rfl hl (by decide) rfl (fun ls hl => ?_)
      obtain ⟨K_7, hK_7, hrun⟩ := mjn_s hrun
      have hj_5 : ∀ (x1_6 : Int32), ∀ ls : Array Slot, lv_has ls 4 [(0, .ref (ah 0)), (1, .int x1_6), (2, .int x2_3)] → K_7 x1_6 = some r → W p l e rX1_alike s m args below meth c s.heap [] 0 0 (MQ below (QRr (some (.int r))) args s 0 0 (fun _ => False)) (F0 m 86 ls []) := by
        intro x1_6 ls hl hrun
        rw [hK_7] at hrun
        refine lv_iinc (v := (x2_3 + (1 : Int32))) (lv' := [(2, .int (x2_3 + (1 : Int32))), (0, .ref (ah 0)), (1, .int x1_6)]) hx hb dX1_alike_86 hl (k := 2) rfl rfl (by decide) rfl (fun ls hl => ?_)
        refine lv_goto (tgt := 4) hx hb dX1_alike_89 (by decide) ?_
        exact ih x1_6 (x2_3 + (1 : Int32)) ls (lv_sub hl [1, 2, 0] rfl) hrun
      have hL_8 : ∀ n : Nat, ∀ (x1_9 : Int32) (x3_10 : Int32), ∀ ls : Array Slot, lv_has ls 4 [(0, .ref (ah 0)), (1, .int x1_9), (2, .int x2_3), (3, .int x3_10)] → fX1_alike_L19 sw K_7 x2_3 n x1_9 x3_10 = some r → W p l e rX1_alike s m args below meth c s.heap [] 0 0 (MQ below (QRr (some (.int r))) args s 0 0 (fun _ => False)) (F0 m 19 ls []) := by
        intro n
        induction n with
        | zero =>
          intro x1_9 x3_10 ls hl hrun
          exact nomatch hrun
        | succ n ih =>
          intro x1_9 x3_10 ls hl hrun
          rw [fX1_alike_L19.eq_2] at hrun
          refine lv_iload_n hx hb dX1_alike_19 rfl (lv_at hl 3 rfl) ?_
          refine lv_aload_n hx hb dX1_alike_20 rfl (lv_at hl 0 rfl) ?_
          refine va_get (ci := 1) (v := .ref (aw 0)) (C := RX1) (T := TX1) (N := 10) hx hb hts in_X1 hown hK hP 0 rfl rfl 0 (by decide) (hts _ q370) (fun _ h9 => h9) rfl dX1_alike_21 ?_
          refine va_getN (ci := 2) (v := .int (wd_guests sw)) (C := RX2) (T := TX2) (N := 21) hx hb hts in_X2 hown hK hP 1 rfl rfl 1 (by decide) (va_Nw.use rfl (hN _ (zN_of q166 rfl))) (fun _ h9 => h9) rfl dX1_alike_24 ?_
          refine lv_icmp_ge (tgt := 86) hx hb dX1_alike_27 (by decide) (fun c_11 => ?_) (fun c_11 => ?_)
          · have hrun := mif_p c_11 hrun
            exact hj_5 x1_9 ls (lv_sub hl [0, 1, 2] rfl) hrun
          have hrun := mif_n c_11 hrun
          refine lv_iload_n hx hb dX1_alike_30 rfl (lv_at hl 1 rfl) ?_
          refine lv_aload_n hx hb dX1_alike_31 rfl (lv_at hl 0 rfl) ?_
          refine va_get (ci := 1) (v := .ref (aw 0)) (C := RX1) (T := TX1) (N := 10) hx hb hts in_X1 hown hK hP 0 rfl rfl 0 (by decide) (hts _ q370) (fun _ h9 => h9) rfl dX1_alike_32 ?_
          refine va_getN (ci := 2) (v := .ref (aw 3)) (C := RX2) (T := TX2) (N := 21) hx hb hts in_X2 hown hK hP 1 rfl rfl 14 (by decide) (va_Nw.use rfl (hN _ (zN_of q194 rfl))) (fun _ h9 => h9) rfl dX1_alike_35 ?_
          refine lv_iload_n hx hb dX1_alike_38 rfl (lv_at hl 2 rfl) ?_
          obtain ⟨hb_12, hrun⟩ := mck_s rfl hrun
          refine va_iald hx hb hK hP 4 0 rfl rfl hb_12 dX1_alike_39 ?_
          refine lv_aload_n hx hb dX1_alike_40 rfl (lv_at hl 0 rfl) ?_
          refine va_get (ci := 1) (v := .ref (aw 0)) (C := RX1) (T := TX1) (N := 10) hx hb hts in_X1 hown hK hP 0 rfl rfl 0 (by decide) (hts _ q370) (fun _ h9 => h9) rfl dX1_alike_41 ?_
          refine va_getN (ci := 2) (v := .ref (aw 3)) (C := RX2) (T := TX2) (N := 21) hx hb hts in_X2 hown hK hP 1 rfl rfl 14 (by decide) (va_Nw.use rfl (hN _ (zN_of q194 rfl))) (fun _ h9 => h9) rfl dX1_alike_44 ?_
          refine lv_iload_n hx hb dX1_alike_47 rfl (lv_at hl 3 rfl) ?_
          obtain ⟨hb_13, hrun⟩ := mck_s rfl hrun
          refine va_iald hx hb hK hP 4 0 rfl rfl hb_13 dX1_alike_48 ?_
          refine lv_icmp_ne (tgt := 77) hx hb dX1_alike_49 (by decide) (fun c_14 => ?_) (fun c_14 => ?_)
          · have hrun := mif_n c_14 hrun
            refine lv_iconst (v := (0 : Int32)) hx hb dX1_alike_77 (by decide) ?_
            refine lv_iadd hx hb dX1_alike_78 ?_
            refine lv_istore_n (lv' := [(1, .int (x1_9 + (0 : Int32))), (0, .ref (ah 0)), (2, .int x2_3), (3, .int x3_10)]) hx hb dX1_alike_79 rfl hl (by decide) rfl (fun ls hl => ?_)
            refine lv_iinc (v := (x3_10 + (1 : Int32))) (lv' := [(3, .int (x3_10 + (1 : Int32))), (1, .int (x1_9 + (0 : Int32))), (0, .ref (ah 0)), (2, .int x2_3)]) hx hb dX1_alike_80 hl (k := 3) rfl rfl (by decide) rfl (fun ls hl => ?_)
            refine lv_goto (tgt := 19) hx hb dX1_alike_83 (by decide) ?_
            exact ih (x1_9 + (0 : Int32)) (x3_10 + (1 : Int32)) ls (lv_sub hl [2, 1, 3, 0] rfl) hrun
          have hrun := mif_p c_14 hrun
          refine lv_aload_n hx hb dX1_alike_52 rfl (lv_at hl 0 rfl) ?_
          refine va_get (ci := 1) (v := .ref (aw 0)) (C := RX1) (T := TX1) (N := 10) hx hb hts in_X1 hown hK hP 0 rfl rfl 0 (by decide) (hts _ q370) (fun _ h9 => h9) rfl dX1_alike_53 ?_
          refine va_getN (ci := 2) (v := .ref (aw 2)) (C := RX2) (T := TX2) (N := 21) hx hb hts in_X2 hown hK hP 1 rfl rfl 13 (by decide) (va_Nw.use rfl (hN _ (zN_of q192 rfl))) (fun _ h9 => h9) rfl dX1_alike_56 ?_
          refine lv_iload_n hx hb dX1_alike_59 rfl (lv_at hl 2 rfl) ?_
          obtain ⟨hb_15, hrun⟩ := mck_s rfl hrun
          refine va_iald hx hb hK hP 3 0 rfl rfl hb_15 dX1_alike_60 ?_
          refine lv_aload_n hx hb dX1_alike_61 rfl (lv_at hl 0 rfl) ?_
          refine va_get (ci := 1) (v := .ref (aw 0)) (C := RX1) (T := TX1) (N := 10) hx hb hts in_X1 hown hK hP 0 rfl rfl 0 (by decide) (hts _ q370) (fun _ h9 => h9) rfl dX1_alike_62 ?_
          refine va_getN (ci := 2) (v := .ref (aw 2)) (C := RX2) (T := TX2) (N := 21) hx hb hts in_X2 hown hK hP 1 rfl rfl 13 (by decide) (va_Nw.use rfl (hN _ (zN_of q192 rfl))) (fun _ h9 => h9) rfl dX1_alike_65 ?_
          refine lv_iload_n hx hb dX1_alike_68 rfl (lv_at hl 3 rfl) ?_
          obtain ⟨hb_16, hrun⟩ := mck_s rfl hrun
          refine va_iald hx hb hK hP 3 0 rfl rfl hb_16 dX1_alike_69 ?_
          refine lv_icmp_ne (tgt := 77) hx hb dX1_alike_70 (by decide) (fun c_17 => ?_) (fun c_17 => ?_)
          · have hrun := mif_n c_17 hrun
            refine lv_iconst (v := (0 : Int32)) hx hb dX1_alike_77 (by decide) ?_
            refine lv_iadd hx hb dX1_alike_78 ?_
            refine lv_istore_n (lv' := [(1, .int (x1_9 + (0 : Int32))), (0, .ref (ah 0)), (2, .int x2_3), (3, .int x3_10)]) hx hb dX1_alike_79 rfl hl (by decide) rfl (fun ls hl => ?_)
            refine lv_iinc (v := (x3_10 + (1 : Int32))) (lv' := [(3, .int (x3_10 + (1 : Int32))), (1, .int (x1_9 + (0 : Int32))), (0, .ref (ah 0)), (2, .int x2_3)]) hx hb dX1_alike_80 hl (k := 3) rfl rfl (by decide) rfl (fun ls hl => ?_)
            refine lv_goto (tgt := 19) hx hb dX1_alike_83 (by decide) ?_
            exact ih (x1_9 + (0 : Int32)) (x3_10 + (1 : Int32)) ls (lv_sub hl [2, 1, 3, 0] rfl) hrun
          have hrun := mif_p c_17 hrun
          refine lv_iconst (v := (1 : Int32)) hx hb dX1_alike_73 (by decide) ?_
          refine lv_goto (tgt := 78) hx hb dX1_alike_74 (by decide) ?_
          refine lv_iadd hx hb dX1_alike_78 ?_
          refine lv_istore_n (lv' := [(1, .int (x1_9 + (1 : Int32))), (0, .ref (ah 0)), (2, .int x2_3), (3, .int x3_10)]) hx hb dX1_alike_79 rfl hl (by decide) rfl (fun ls hl => ?_)
          refine lv_iinc (v := (x3_10 + (1 : Int32))) (lv' := [(3, .int (x3_10 + (1 : Int32))), (1, .int (x1_9 + (1 : Int32))), (0, .ref (ah 0)), (2, .int x2_3)]) hx hb dX1_alike_80 hl (k := 3) rfl rfl (by decide) rfl (fun ls hl => ?_)
          refine lv_goto (tgt := 19) hx hb dX1_alike_83 (by decide) ?_
          exact ih (x1_9 + (1 : Int32)) (x3_10 + (1 : Int32)) ls (lv_sub hl [2, 1, 3, 0] rfl) hrun
      exact hL_8 mFU x1_2 (x2_3 + (1 : Int32)) ls (lv_sub hl [1, 2, 3, 0] rfl) hrun
  exact hL_1 mFU (0 : Int32) (0 : Int32) ls (lv_sub hl [2, 1, 0] rfl) hrun
def rX1_well : Room := { frames := 2, cells := 0, slots := 0, locals := 44 }
noncomputable def fX1_well_L6 (sw : Wd) : Nat → Int32 → Int32 → Int32 → Option (Int32)
  | 0, _, _, _ => none
  | n + 1, x1_2, x2_3, x3_4 =>
    if (8 : Int32) ≤ x3_4 then
      some x1_2
    else
      mob (fX2_into sw x3_4) fun r_7 =>
      mob (fJ16_bitCount r_7) fun r_9 =>
      if x2_3 < r_9 then
        fX1_well_L6 sw n x3_4 r_9 (x3_4 + (1 : Int32))
      else
        fX1_well_L6 sw n x1_2 x2_3 (x3_4 + (1 : Int32))
noncomputable def fX1_well (sh : Kp) (sw : Wd) : Option (Int32) :=
  fX1_well_L6 sw mFU (-1 : Int32) (0 : Int32) (0 : Int32)
theorem kX1_well {R : Room} {s : State} {args : Array Value} {own : String} {idx mc ms : Nat} {rm : Room} (hts : ∀ w ∈ lw_all, w.before args s = true) (hl : Cond.methodLink own idx yX1_well ∈ lw_all) (hrc : rm.cells = mc) (hrs : rm.slots = ms) (hR : rm.frames + 1 ≤ R.frames ∧ 8 + (5 + 11) + rm.locals ≤ R.locals) : CallW R s args own RX1 idx yX1_well cX1_well 5 (some .int) (ws_ yX1_well cX1_well 5 (some .int)) rm mc ms 0 :=
  cwV 0 hts (lw_V hl q691 q692 q107 q693) rfl hrc hrs (by decide +kernel) hR
set_option maxHeartbeats 4000000 in
set_option maxRecDepth 100000 in
theorem mtX1_well (l : Launch) (D : va_G) (k : Nat → ClassId) (ah : Nat → Nat) (aw : Nat → Nat) (adr : Nat → Nat) (aim : Nat → Nat) (ard : Nat → Nat) (asc : Nat → Nat) (ath : Nat → Nat) (awl : Nat → Nat) (alo : Nat → Nat) (atr : Nat → Nat) (Z : zZ) (hOK : zOK D zCl (zTys k) Z) (sh : Kp) (sw : Wd) (r : Int32) (hrun : fX1_well sh sw = some r) :
    CtR l yX1_well cX1_well 5 (some .int) rX1_well Z D zCl ((cH k ah aw adr aim ard asc ath awl alo atr sh) ++ (cW k aw sw)) [.ref (ah 0)] (some (.int r)) := by
  refine CtR.of (by decide) (Nat.le_of_ble_eq_true rfl) ?_
  intro p e s m args below meth c hE hP hz ls hl
  obtain ⟨hx, hb, hr, hml, hown, hts, hlocks, hname⟩ := hE
  have hown : s.vm.findClass RX1 = some m.cls := hown
  have hK := hOK.1 _ _ _ hz
  have hN := hOK.2.1 _ _ _ hz
  have hl : lv_has ls 5 [(0, .ref (ah 0))] := hl
  unfold fX1_well at hrun
  refine lv_iconst (v := (-1 : Int32)) hx hb dX1_well_0 (by decide) ?_
  refine lv_istore_n (lv' := [(1, .int (-1 : Int32)), (0, .ref (ah 0))]) hx hb dX1_well_1 rfl hl (by decide) rfl (fun ls hl => ?_)
  refine lv_iconst (v := (0 : Int32)) hx hb dX1_well_2 (by decide) ?_
  refine lv_istore_n (lv' := [(2, .int (0 : Int32)), (1, .int (-1 : Int32)), (0, .ref (ah 0))]) hx hb dX1_well_3 rfl hl (by decide) rfl (fun ls hl => ?_)
  refine lv_iconst (v := (0 : Int32)) hx hb dX1_well_4 (by decide) ?_
  refine lv_istore_n (lv' := [(3, .int (0 : Int32)), (2, .int (0 : Int32)), (1, .int (-1 : Int32)), (0, .ref (ah 0))]) hx hb dX1_well_5 rfl hl (by decide) rfl (fun ls hl => ?_)
  have hL_1 : ∀ n : Nat, ∀ (x1_2 : Int32) (x2_3 : Int32) (x3_4 : Int32), ∀ ls : Array Slot, lv_has ls 5 [(0, .ref (ah 0)), (1, .int x1_2), (2, .int x2_3), (3, .int x3_4)] → fX1_well_L6 sw n x1_2 x2_3 x3_4 = some r → W p l e rX1_well s m args below meth c s.heap [] 0 0 (MQ below (QRr (some (.int r))) args s 0 0 (fun _ => False)) (F0 m 6 ls []) := by
    intro n
    induction n with
    | zero =>
      intro x1_2 x2_3 x3_4 ls hl hrun
      exact nomatch hrun
    | succ n ih =>
      intro x1_2 x2_3 x3_4 ls hl hrun
      rw [fX1_well_L6.eq_2] at hrun
      refine lv_iload_n hx hb dX1_well_6 rfl (lv_at hl 3 rfl) ?_
      refine lv_bipush (v := (8 : Int32)) hx hb dX1_well_7 (by decide) ?_
      refine lv_icmp_ge (tgt := 45) hx hb dX1_well_9 (by decide) (fun c_5 => ?_) (fun c_5 => ?_)
      · have hrun := mif_p c_5 hrun
        refine lv_iload_n hx hb dX1_well_45 rfl (lv_at hl 1 rfl) ?_
        cases hrun
        exact retR_i hx hb hr hlocks rfl dX1_well_46
      have hrun := mif_n c_5 hrun
      refine lv_aload_n hx hb dX1_well_12 rfl (lv_at hl 0 rfl) ?_
      refine va_get (ci := 1) (v := .ref (aw 0)) (C := RX1) (T := TX1) (N := 10) hx hb hts in_X1 hown hK hP 0 rfl rfl 0 (by decide) (hts _ q370) (fun _ h9 => h9) rfl dX1_well_13 ?_
      refine lv_iload_n hx hb dX1_well_16 rfl (lv_at hl 3 rfl) ?_
      obtain ⟨r_7, hc_6, hrun⟩ := mob_s rfl hrun
      refine cRV (As := [.int x3_4]) (ci := 2) ⟨hx, hb, hml, hown, hts⟩ hOK hz va_S.rf (hP.sub (ws' := (cW k aw sw)) [1, 2, 3, 4, 5, 6, 7, 8, 9] rfl) (mtX2_into l D k aw Z hOK _ _ _ hc_6) (kX2_into hts q694 rfl rfl ⟨Nat.le_of_ble_eq_true rfl, Nat.le_of_ble_eq_true rfl⟩) 0 rfl rfl rfl hl.1 rfl (lv_room (Nat.le_of_ble_eq_true rfl)) ⟨Nat.le_of_ble_eq_true rfl, Nat.le_of_ble_eq_true rfl⟩ dX1_well_17 ?_
      obtain ⟨r_9, hc_8, hrun⟩ := mob_s rfl hrun
      refine cRS (ws := []) (As := [.int r_7]) ⟨hx, hb, hml, hown, hts⟩ hOK hz va_S.rf zP0 (mtJ16_bitCount l D Z hOK _ _ hc_8) (kJ16_bitCount hts q456 rfl rfl ⟨Nat.le_of_ble_eq_true rfl, Nat.le_of_ble_eq_true rfl⟩) rfl hl.1 rfl (lv_room (Nat.le_of_ble_eq_true rfl)) ⟨Nat.le_of_ble_eq_true rfl, Nat.le_of_ble_eq_true rfl⟩ dX1_well_20 ?_
      refine lv_istore (lv' := [(4, .int r_9), (0, .ref (ah 0)), (1, .int x1_2), (2, .int x2_3), (3, .int x3_4)]) hx hb dX1_well_23 hl (by decide) rfl (fun ls hl => ?_)
      refine lv_iload hx hb dX1_well_25 (lv_at hl 0 rfl) ?_
      refine lv_iload_n hx hb dX1_well_27 rfl (lv_at hl 3 rfl) ?_
      refine lv_icmp_gt (tgt := 34) hx hb dX1_well_28 (by decide) (fun c_10 => ?_) (fun c_10 => ?_)
      · have hrun := mif_p c_10 hrun
        refine lv_iload_n hx hb dX1_well_34 rfl (lv_at hl 4 rfl) ?_
        refine lv_istore_n (lv' := [(1, .int x3_4), (4, .int r_9), (0, .ref (ah 0)), (2, .int x2_3), (3, .int x3_4)]) hx hb dX1_well_35 rfl hl (by decide) rfl (fun ls hl => ?_)
        refine lv_iload hx hb dX1_well_36 (lv_at hl 1 rfl) ?_
        refine lv_istore_n (lv' := [(2, .int r_9), (1, .int x3_4), (4, .int r_9), (0, .ref (ah 0)), (3, .int x3_4)]) hx hb dX1_well_38 rfl hl (by decide) rfl (fun ls hl => ?_)
        refine lv_iinc (v := (x3_4 + (1 : Int32))) (lv' := [(3, .int (x3_4 + (1 : Int32))), (2, .int r_9), (1, .int x3_4), (4, .int r_9), (0, .ref (ah 0))]) hx hb dX1_well_39 hl (k := 4) rfl rfl (by decide) rfl (fun ls hl => ?_)
        refine lv_goto (tgt := 6) hx hb dX1_well_42 (by decide) ?_
        exact ih x3_4 r_9 (x3_4 + (1 : Int32)) ls (lv_sub hl [4, 2, 1, 0] rfl) hrun
      have hrun := mif_n c_10 hrun
      refine lv_goto (tgt := 39) hx hb dX1_well_31 (by decide) ?_
      refine lv_iinc (v := (x3_4 + (1 : Int32))) (lv' := [(3, .int (x3_4 + (1 : Int32))), (4, .int r_9), (0, .ref (ah 0)), (1, .int x1_2), (2, .int x2_3)]) hx hb dX1_well_39 hl (k := 4) rfl rfl (by decide) rfl (fun ls hl => ?_)
      refine lv_goto (tgt := 6) hx hb dX1_well_42 (by decide) ?_
      exact ih x1_2 x2_3 (x3_4 + (1 : Int32)) ls (lv_sub hl [2, 3, 4, 0] rfl) hrun
  exact hL_1 mFU (-1 : Int32) (0 : Int32) (0 : Int32) ls (lv_sub hl [3, 2, 1, 0] rfl) hrun
