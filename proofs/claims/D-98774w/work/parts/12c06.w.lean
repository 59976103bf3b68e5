/-! walks: X1_stepsBy, X1_crowd, X1_ofLog, X1_seed, X1_hostHas, X1_guestHas, X1_there, X1_demand, X1_question, X1_roomAt -/
def rX1_stepsBy : Room := { frames := 1, cells := 0, slots := 0, locals := 23 }
noncomputable def fX1_stepsBy_L6 (p2 : Int32) (sw : Wd) (p3 : Int32) (K_2 : Option (Int32)) : Nat → Int32 → Int32 → Option (Int32)
  | 0, _, _ => none
  | n + 1, x4_4, x5_5 =>
    if x5_5 = p2 then
      some x4_4
    else
      mob (fX2_inside sw (mrm (x5_5 + p3) (8 : Int32))) fun r_8 =>
      if r_8 = (0 : Int32) then
        fX1_stepsBy_L6 p2 sw p3 K_2 n (x4_4 + (1 : Int32)) (mrm (x5_5 + p3) (8 : Int32))
      else
        K_2
noncomputable def fX1_stepsBy (sh : Kp) (sw : Wd) (p1 : Int32) (p2 : Int32) (p3 : Int32) : Option (Int32) :=
  mjn (some (1000000 : Int32)) fun K_2 =>
  fX1_stepsBy_L6 p2 sw p3 K_2 mFU (0 : Int32) p1
theorem kX1_stepsBy {R : Room} {s : State} {args : Array Value} {own : String} {idx mc ms : Nat} {rm : Room} (hts : ∀ w ∈ lw_all, w.before args s = true) (hl : Cond.methodLink own idx yX1_stepsBy ∈ lw_all) (hrc : rm.cells = mc) (hrs : rm.slots = ms) (hR : rm.frames + 1 ≤ R.frames ∧ 8 + (6 + 11) + rm.locals ≤ R.locals) : CallW R s args own RX1 idx yX1_stepsBy cX1_stepsBy 6 (some .int) (ws_ yX1_stepsBy cX1_stepsBy 6 (some .int)) rm mc ms 3 :=
  cwV 3 hts (lw_V hl q1836 qs46 q107 q1837) rfl hrc hrs (by decide +kernel) hR
set_option maxHeartbeats 4000000 in
set_option maxRecDepth 100000 in
theorem mtX1_stepsBy (l : Launch) (D : va_G) (k : Nat → ClassId) (ah : Nat → Nat) (aw : Nat → Nat) (adr : Nat → Nat) (aim : Nat → Nat) (ard : Nat → Nat) (asc : Nat → Nat) (ath : Nat → Nat) (awl : Nat → Nat) (alo : Nat → Nat) (atr : Nat → Nat) (Z : zZ) (hOK : zOK D zCl (zTys k) Z) (sh : Kp) (sw : Wd) (p1 : Int32) (p2 : Int32) (p3 : Int32) (r : Int32) (hrun : fX1_stepsBy sh sw p1 p2 p3 = some r) :
    CtR l yX1_stepsBy cX1_stepsBy 6 (some .int) rX1_stepsBy Z D zCl ((cH k ah aw adr aim ard asc ath awl alo atr sh) ++ (cW k aw sw)) [.ref (ah 0), .int p1, .int p2, .int p3] (some (.int r)) := by
  refine CtR.of (by decide) (Nat.le_of_ble_eq_true rfl) ?_
  intro p e s m args below meth c hE hP hz ls hl
  obtain ⟨hx, hb, hr, hml, hown, hts, hlocks, hname⟩ := hE
  have hown : s.vm.findClass RX1 = some m.cls := hown
  have hK := hOK.1 _ _ _ hz
  have hN := hOK.2.1 _ _ _ hz
  have hl : lv_has ls 6 [(0, .ref (ah 0)), (1, .int p1), (2, .int p2), (3, .int p3)] := hl
  unfold fX1_stepsBy at hrun
  refine lv_iconst (v := (0 : Int32)) hx hb dX1_stepsBy_0 (by decide) ?_
  refine lv_istore (lv' := [(4, .int (0 : Int32)), (0, .ref (ah 0)), (1, .int p1), (2, .int p2), (3, .int p3)]) hx hb dX1_stepsBy_1 hl (by decide) rfl (fun ls hl => ?_)
  refine lv_iload_n hx hb dX1_stepsBy_3 rfl (lv_at hl 2 rfl) ?_
  refine lv_istore (lv' := [(5, .int p1), (4, .int (0 : Int32)), (0, .ref (ah 0)), (1, .int p1), (2, .int p2), (3, .int p3)]) hx hb dX1_stepsBy_4 hl (by decide) rfl (fun ls hl => ?_)
  obtain ⟨K_2, hK_2, hrun⟩ := mjn_s hrun
  have hj_1 : ∀ ls : Array Slot, lv_has ls 6 [] → K_2 = some r → W p l e rX1_stepsBy s m args below meth c s.heap [] 0 0 (MQ below (QRr (some (.int r))) args s 0 0 (fun _ => False)) (F0 m 33 ls []) := by
    intro ls hl hrun
    rw [hK_2] at hrun
    refine lv_ldcw (v := (1000000 : Int32)) hx hb hown (hts _ q1838) dX1_stepsBy_33 ?_
    cases hrun
    exact retR_i hx hb hr hlocks rfl dX1_stepsBy_36
  have hL_3 : ∀ n : Nat, ∀ (x4_4 : Int32) (x5_5 : Int32), ∀ ls : Array Slot, lv_has ls 6 [(0, .ref (ah 0)), (2, .int p2), (3, .int p3), (4, .int x4_4), (5, .int x5_5)] → fX1_stepsBy_L6 p2 sw p3 K_2 n x4_4 x5_5 = some r → W p l e rX1_stepsBy s m args below meth c s.heap [] 0 0 (MQ below (QRr (some (.int r))) args s 0 0 (fun _ => False)) (F0 m 6 ls []) := by
    intro n
    induction n with
    | zero =>
      intro x4_4 x5_5 ls hl hrun
      exact nomatch hrun
    | succ n ih =>
      intro x4_4 x5_5 ls hl hrun
      rw [fX1_stepsBy_L6.eq_2] at hrun
      refine lv_iload hx hb dX1_stepsBy_6 (lv_at hl 4 rfl) ?_
      refine lv_iload_n hx hb dX1_stepsBy_8 rfl (lv_at hl 1 rfl) ?_
      refine lv_icmp_eq (tgt := 43) hx hb dX1_stepsBy_9 (by decide) (fun c_6 => ?_) (fun c_6 => ?_)
      · have hrun := mif_p c_6 hrun
        refine lv_iload hx hb dX1_stepsBy_43 (lv_at hl 3 rfl) ?_
        cases hrun
        exact retR_i hx hb hr hlocks rfl dX1_stepsBy_45
      have hrun := mif_n c_6 hrun
      refine lv_iload hx hb dX1_stepsBy_12 (lv_at hl 4 rfl) ?_
      refine lv_iload_n hx hb dX1_stepsBy_14 rfl (lv_at hl 2 rfl) ?_
      refine lv_iadd hx hb dX1_stepsBy_15 ?_
      refine lv_bipush (v := (8 : Int32)) hx hb dX1_stepsBy_16 (by decide) ?_
      refine lv_irem hx hb dX1_stepsBy_18 (by decide) ?_
      refine lv_istore (lv' := [(5, .int (mrm (x5_5 + p3) (8 : Int32))), (0, .ref (ah 0)), (2, .int p2), (3, .int p3), (4, .int x4_4)]) hx hb dX1_stepsBy_19 hl (by decide) rfl (fun ls hl => ?_)
      refine lv_aload_n hx hb dX1_stepsBy_21 rfl (lv_at hl 1 rfl) ?_
      refine va_get (ci := 1) (v := .ref (aw 0)) (C := RX1) (T := TX1) (N := 10) hx hb hts in_X1 hown hK hP 0 rfl rfl 0 (by decide) (hts _ q370) (fun _ h9 => h9) rfl dX1_stepsBy_22 ?_
      refine lv_iload hx hb dX1_stepsBy_25 (lv_at hl 0 rfl) ?_
      obtain ⟨r_8, hc_7, hrun⟩ := mob_s rfl hrun
      refine cRV (As := [.int (mrm (x5_5 + p3) (8 : Int32))]) (ci := 2) ⟨hx, hb, hml, hown, hts⟩ hOK hz va_S.rf (hP.sub (ws' := (cW k aw sw)) [1, 2, 3, 4, 5, 6, 7, 8, 9] rfl) (mtX2_inside l D k aw Z hOK _ _ _ hc_7) (kX2_inside hts q601 rfl rfl ⟨Nat.le_of_ble_eq_true rfl, Nat.le_of_ble_eq_true rfl⟩) 0 rfl rfl rfl hl.1 rfl (lv_room (Nat.le_of_ble_eq_true rfl)) ⟨Nat.le_of_ble_eq_true rfl, Nat.le_of_ble_eq_true rfl⟩ dX1_stepsBy_27 ?_
      refine lv_if_eq (tgt := 37) hx hb dX1_stepsBy_30 (by decide) (fun c_9 => ?_) (fun c_9 => ?_)
      · have hrun := mif_p c_9 hrun
        refine lv_iinc (v := (x4_4 + (1 : Int32))) (lv' := [(4, .int (x4_4 + (1 : Int32))), (5, .int (mrm (x5_5 + p3) (8 : Int32))), (0, .ref (ah 0)), (2, .int p2), (3, .int p3)]) hx hb dX1_stepsBy_37 hl (k := 4) rfl rfl (by decide) rfl (fun ls hl => ?_)
        refine lv_goto (tgt := 6) hx hb dX1_stepsBy_40 (by decide) ?_
        exact ih (x4_4 + (1 : Int32)) (mrm (x5_5 + p3) (8 : Int32)) ls (lv_sub hl [2, 3, 4, 0, 1] rfl) hrun
      have hrun := mif_n c_9 hrun
      exact hj_1 ls (lv_sub hl [] rfl) hrun
  exact hL_3 mFU (0 : Int32) p1 ls (lv_sub hl [2, 4, 5, 1, 0] rfl) hrun
def rX1_crowd : Room := { frames := 1, cells := 0, slots := 0, locals := 23 }
noncomputable def fX1_crowd_L6 (sw : Wd) : Nat → Int32 → Int32 → Int32 → Option (Int32)
  | 0, _, _, _ => none
  | n + 1, x1_2, x2_3, x3_4 =>
    if (8 : Int32) ≤ x3_4 then
      some x1_2
    else
      mob (fX2_inside sw x3_4) fun r_7 =>
      mob (fJ16_bitCount r_7) fun r_9 =>
      if x2_3 < r_9 then
        fX1_crowd_L6 sw n x3_4 r_9 (x3_4 + (1 : Int32))
      else
        fX1_crowd_L6 sw n x1_2 x2_3 (x3_4 + (1 : Int32))
noncomputable def fX1_crowd (sh : Kp) (sw : Wd) : Option (Int32) :=
  fX1_crowd_L6 sw mFU (-1 : Int32) (0 : Int32) (0 : Int32)
theorem kX1_crowd {R : Room} {s : State} {args : Array Value} {own : String} {idx mc ms : Nat} {rm : Room} (hts : ∀ w ∈ lw_all, w.before args s = true) (hl : Cond.methodLink own idx yX1_crowd ∈ lw_all) (hrc : rm.cells = mc) (hrs : rm.slots = ms) (hR : rm.frames + 1 ≤ R.frames ∧ 8 + (5 + 11) + rm.locals ≤ R.locals) : CallW R s args own RX1 idx yX1_crowd cX1_crowd 5 (some .int) (ws_ yX1_crowd cX1_crowd 5 (some .int)) rm mc ms 0 :=
  cwV 0 hts (lw_V hl q699 q700 q107 q701) rfl hrc hrs (by decide +kernel) hR
set_option maxHeartbeats 4000000 in
set_option maxRecDepth 100000 in
theorem mtX1_crowd (l : Launch) (D : va_G) (k : Nat → ClassId) (ah : Nat → Nat) (aw : Nat → Nat) (adr : Nat → Nat) (aim : Nat → Nat) (ard : Nat → Nat) (asc : Nat → Nat) (ath : Nat → Nat) (awl : Nat → Nat) (alo : Nat → Nat) (atr : Nat → Nat) (Z : zZ) (hOK : zOK D zCl (zTys k) Z) (sh : Kp) (sw : Wd) (r : Int32) (hrun : fX1_crowd sh sw = some r) :
    CtR l yX1_crowd cX1_crowd 5 (some .int) rX1_crowd Z D zCl ((cH k ah aw adr aim ard asc ath awl alo atr sh) ++ (cW k aw sw)) [.ref (ah 0)] (some (.int r)) := by
  refine CtR.of (by decide) (Nat.le_of_ble_eq_true rfl) ?_
  intro p e s m args below meth c hE hP hz ls hl
  obtain ⟨hx, hb, hr, hml, hown, hts, hlocks, hname⟩ := hE
  have hown : s.vm.findClass RX1 = some m.cls := hown
  have hK := hOK.1 _ _ _ hz
  have hN := hOK.2.1 _ _ _ hz
  have hl : lv_has ls 5 [(0, .ref (ah 0))] := hl
  unfold fX1_crowd at hrun
  refine lv_iconst (v := (-1 : Int32)) hx hb dX1_crowd_0 (by decide) ?_
  refine lv_istore_n (lv' := [(1, .int (-1 : Int32)), (0, .ref (ah 0))]) hx hb dX1_crowd_1 rfl hl (by decide) rfl (fun ls hl => ?_)
  refine lv_iconst (v := (0 : Int32)) hx hb dX1_crowd_2 (by decide) ?_
  refine lv_istore_n (lv' := [(2, .int (0 : Int32)), (1, .int (-1 : Int32)), (0, .ref (ah 0))]) hx hb dX1_crowd_3 rfl hl (by decide) rfl (fun ls hl => ?_)
  refine lv_iconst (v := (0 : Int32)) hx hb dX1_crowd_4 (by decide) ?_
  refine lv_istore_n (lv' := [(3, .int (0 : Int32)), (2, .int (0 : Int32)), (1, .int (-1 : Int32)), (0, .ref (ah 0))]) hx hb dX1_crowd_5 rfl hl (by decide) rfl (fun ls hl => ?_)
  have hL_1 : ∀ n : Nat, ∀ (x1_2 : Int32) (x2_3 : Int32) (x3_4 : Int32), ∀ ls : Array Slot, lv_has ls 5 [(0, .ref (ah 0)), (1, .int x1_2), (2, .int x2_3), (3, .int x3_4)] → fX1_crowd_L6 sw n x1_2 x2_3 x3_4 = some r → W p l e rX1_crowd s m args below meth c s.heap [] 0 0 (MQ below (QRr (some (.int r))) args s 0 0 (fun _ => False)) (F0 m 6 ls []) := by
    intro n
    induction n with
    | zero =>
      intro x1_2 x2_3 x3_4 ls hl hrun
      exact nomatch hrun
    | succ n ih =>
      intro x1_2 x2_3 x3_4 ls hl hrun
      rw [fX1_crowd_L6.eq_2] at hrun
      refine lv_iload_n hx hb dX1_crowd_6 rfl (lv_at hl 3 rfl) ?_
      refine lv_bipush (v := (8 : Int32)) hx hb dX1_crowd_7 (by decide) ?_
      refine lv_icmp_ge (tgt := 45) hx hb dX1_crowd_9 (by decide) (fun c_5 => ?_) (fun c_5 => ?_)
      · have hrun := mif_p c_5 hrun
        refine lv_iload_n hx hb dX1_crowd_45 rfl (lv_at hl 1 rfl) ?_
        cases hrun
        exact retR_i hx hb hr hlocks rfl dX1_crowd_46
      have hrun := mif_n c_5 hrun
      refine lv_aload_n hx hb dX1_crowd_12 rfl (lv_at hl 0 rfl) ?_
      refine va_get (ci := 1) (v := .ref (aw 0)) (C := RX1) (T := TX1) (N := 10) hx hb hts in_X1 hown hK hP 0 rfl rfl 0 (by decide) (hts _ q370) (fun _ h9 => h9) rfl dX1_crowd_13 ?_
      refine lv_iload_n hx hb dX1_crowd_16 rfl (lv_at hl 3 rfl) ?_
      obtain ⟨r_7, hc_6, hrun⟩ := mob_s rfl hrun
      refine cRV (As := [.int x3_4]) (ci := 2) ⟨hx, hb, hml, hown, hts⟩ hOK hz va_S.rf (hP.sub (ws' := (cW k aw sw)) [1, 2, 3, 4, 5, 6, 7, 8, 9] rfl) (mtX2_inside l D k aw Z hOK _ _ _ hc_6) (kX2_inside hts q601 rfl rfl ⟨Nat.le_of_ble_eq_true rfl, Nat.le_of_ble_eq_true rfl⟩) 0 rfl rfl rfl hl.1 rfl (lv_room (Nat.le_of_ble_eq_true rfl)) ⟨Nat.le_of_ble_eq_true rfl, Nat.le_of_ble_eq_true rfl⟩ dX1_crowd_17 ?_
      obtain ⟨r_9, hc_8, hrun⟩ := mob_s rfl hrun
      refine cRS (ws := []) (As := [.int r_7]) ⟨hx, hb, hml, hown, hts⟩ hOK hz va_S.rf zP0 (mtJ16_bitCount l D Z hOK _ _ hc_8) (kJ16_bitCount hts q456 rfl rfl ⟨Nat.le_of_ble_eq_true rfl, Nat.le_of_ble_eq_true rfl⟩) rfl hl.1 rfl (lv_room (Nat.le_of_ble_eq_true rfl)) ⟨Nat.le_of_ble_eq_true rfl, Nat.le_of_ble_eq_true rfl⟩ dX1_crowd_20 ?_
      refine lv_istore (lv' := [(4, .int r_9), (0, .ref (ah 0)), (1, .int x1_2), (2, .int x2_3), (3, .int x3_4)]) hx hb dX1_crowd_23 hl (by decide) rfl (fun ls hl => ?_)
      refine lv_iload hx hb dX1_crowd_25 (lv_at hl 0 rfl) ?_
      refine lv_iload_n hx hb dX1_crowd_27 rfl (lv_at hl 3 rfl) ?_
      refine lv_icmp_gt (tgt := 34) hx hb dX1_crowd_28 (by decide) (fun c_10 => ?_) (fun c_10 => ?_)
      · have hrun := mif_p c_10 hrun
        refine lv_iload_n hx hb dX1_crowd_34 rfl (lv_at hl 4 rfl) ?_
        refine lv_istore_n (lv' := [(1, .int x3_4), (4, .int r_9), (0, .ref (ah 0)), (2, .int x2_3), (3, .int x3_4)]) hx hb dX1_crowd_35 rfl hl (by decide) rfl (fun ls hl => ?_)
        refine lv_iload hx hb dX1_crowd_36 (lv_at hl 1 rfl) ?_
        refine lv_istore_n (lv' := [(2, .int r_9), (1, .int x3_4), (4, .int r_9), (0, .ref (ah 0)), (3, .int x3_4)]) hx hb dX1_crowd_38 rfl hl (by decide) rfl (fun ls hl => ?_)
        refine lv_iinc (v := (x3_4 + (1 : Int32))) (lv' := [(3, .int (x3_4 + (1 : Int32))), (2, .int r_9), (1, .int x3_4), (4, .int r_9), (0, .ref (ah 0))]) hx hb dX1_crowd_39 hl (k := 4) rfl rfl (by decide) rfl (fun ls hl => ?_)
        refine lv_goto (tgt := 6) hx hb dX1_crowd_42 (by decide) ?_
        exact ih x3_4 r_9 (x3_4 + (1 : Int32)) ls (lv_sub hl [4, 2, 1, 0] rfl) hrun
      have hrun := mif_n c_10 hrun
      refine lv_goto (tgt := 39) hx hb dX1_crowd_31 (by decide) ?_
      refine lv_iinc (v := (x3_4 + (1 : Int32))) (lv' := [(3, .int (x3_4 + (1 : Int32))), (4, .int r_9), (0, .ref (ah 0)), (1, .int x1_2), (2, .int x2_3)]) hx hb dX1_crowd_39 hl (k := 4) rfl rfl (by decide) rfl (fun ls hl => ?_)
      refine lv_goto (tgt := 6) hx hb dX1_crowd_42 (by decide) ?_
      exact ih x1_2 x2_3 (x3_4 + (1 : Int32)) ls (lv_sub hl [2, 3, 4, 0] rfl) hrun
  exact hL_1 mFU (-1 : Int32) (0 : Int32) (0 : Int32) ls (lv_sub hl [3, 2, 1, 0] rfl) hrun
def rX1_ofLog : Room := { frames := 0, cells := 0, slots := 0, locals := 0 }
noncomputable def fX1_ofLog (sh : Kp) (sw : Wd) (p1 : Int32) (p2 : Int32) : Option (Int32) :=
  mck (((4 : Int32) * p1) + p2) 240 <|
  some ((wd_log sw) (Int32.toNatClampNeg (((4 : Int32) * p1) + p2)))
theorem kX1_ofLog {R : Room} {s : State} {args : Array Value} {own : String} {idx mc ms : Nat} {rm : Room} (hts : ∀ w ∈ lw_all, w.before args s = true) (hl : Cond.methodLink own idx yX1_ofLog ∈ lw_all) (hrc : rm.cells = mc) (hrs : rm.slots = ms) (hR : rm.frames + 1 ≤ R.frames ∧ 8 + (3 + 11) + rm.locals ≤ R.locals) : CallW R s args own RX1 idx yX1_ofLog cX1_ofLog 3 (some .int) (ws_ yX1_ofLog cX1_ofLog 3 (some .int)) rm mc ms 2 :=
  cwV 2 hts (lw_V hl q1887 qs48 q107 q1888) rfl hrc hrs (by decide +kernel) hR
set_option maxHeartbeats 4000000 in
set_option maxRecDepth 100000 in
theorem mtX1_ofLog (l : Launch) (D : va_G) (k : Nat → ClassId) (ah : Nat → Nat) (aw : Nat → Nat) (adr : Nat → Nat) (aim : Nat → Nat) (ard : Nat → Nat) (asc : Nat → Nat) (ath : Nat → Nat) (awl : Nat → Nat) (alo : Nat → Nat) (atr : Nat → Nat) (Z : zZ) (hOK : zOK D zCl (zTys k) Z) (sh : Kp) (sw : Wd) (p1 : Int32) (p2 : Int32) (r : Int32) (hrun : fX1_ofLog sh sw p1 p2 = some r) :
    CtR l yX1_ofLog cX1_ofLog 3 (some .int) rX1_ofLog Z D zCl ((cH k ah aw adr aim ard asc ath awl alo atr sh) ++ (cW k aw sw)) [.ref (ah 0), .int p1, .int p2] (some (.int r)) := by
  refine CtR.of (by decide) (Nat.le_of_ble_eq_true rfl) ?_
  intro p e s m args below meth c hE hP hz ls hl
  obtain ⟨hx, hb, hr, hml, hown, hts, hlocks, hname⟩ := hE
  have hown : s.vm.findClass RX1 = some m.cls := hown
  have hK := hOK.1 _ _ _ hz
  have hN := hOK.2.1 _ _ _ hz
  have hl : lv_has ls 3 [(0, .ref (ah 0)), (1, .int p1), (2, .int p2)] := hl
  unfold fX1_ofLog at hrun
  refine lv_aload_n hx hb dX1_ofLog_0 rfl (lv_at hl 0 rfl) ?_
  refine va_get (ci := 1) (v := .ref (aw 0)) (C := RX1) (T := TX1) (N := 10) hx hb hts in_X1 hown hK hP 0 rfl rfl 0 (by decide) (hts _ q370) (fun _ h9 => h9) rfl dX1_ofLog_1 ?_
  refine va_getN (ci := 2) (v := .ref (aw 8)) (C := RX2) (T := TX2) (N := 21) hx hb hts in_X2 hown hK hP 1 rfl rfl 19 (by decide) (va_Nw.use rfl (hN _ (zN_of q206 rfl))) (fun _ h9 => h9) rfl dX1_ofLog_4 ?_
  refine lv_iconst (v := (4 : Int32)) hx hb dX1_ofLog_7 (by decide) ?_
  refine lv_iload_n hx hb dX1_ofLog_8 rfl (lv_at hl 1 rfl) ?_
  refine lv_imul hx hb dX1_ofLog_9 ?_
  refine lv_iload_n hx hb dX1_ofLog_10 rfl (lv_at hl 2 rfl) ?_
  refine lv_iadd hx hb dX1_ofLog_11 ?_
  obtain ⟨hb_1, hrun⟩ := mck_s rfl hrun
  refine va_iald hx hb hK hP 9 0 rfl rfl hb_1 dX1_ofLog_12 ?_
  cases hrun
  exact retR_i hx hb hr hlocks rfl dX1_ofLog_13
def rX1_seed : Room := { frames := 0, cells := 0, slots := 0, locals := 0 }
noncomputable def fX1_seed (sh : Kp) (sw : Wd) (p1 : Int32) : Option (Int32 × Wd) :=
  mlt (wd_s_seed sw p1) fun sw_1 =>
  some ((wd_seed sw), sw_1)
theorem kX1_seed {R : Room} {s : State} {args : Array Value} {own : String} {idx mc ms : Nat} {rm : Room} (hts : ∀ w ∈ lw_all, w.before args s = true) (hl : Cond.methodLink own idx yX1_seed ∈ lw_all) (hrc : rm.cells = mc) (hrs : rm.slots = ms) (hR : rm.frames + 1 ≤ R.frames ∧ 8 + (3 + 11) + rm.locals ≤ R.locals) : CallW R s args own RX1 idx yX1_seed cX1_seed 3 (some .int) (ws_ yX1_seed cX1_seed 3 (some .int)) rm mc ms 1 :=
  cwV 1 hts (lw_V hl q703 q704 q107 q705) rfl hrc hrs (by decide +kernel) hR
set_option maxHeartbeats 4000000 in
set_option maxRecDepth 100000 in
theorem mtX1_seed (l : Launch) (D : va_G) (k : Nat → ClassId) (ah : Nat → Nat) (aw : Nat → Nat) (adr : Nat → Nat) (aim : Nat → Nat) (ard : Nat → Nat) (asc : Nat → Nat) (ath : Nat → Nat) (awl : Nat → Nat) (alo : Nat → Nat) (atr : Nat → Nat) (Z : zZ) (hOK : zOK D zCl (zTys k) Z) (sh : Kp) (sw : Wd) (p1 : Int32) (r : Int32) (ow : Wd) (hrun : fX1_seed sh sw p1 = some (r, ow)) :
    CtW l yX1_seed cX1_seed 3 (some .int) rX1_seed Z D zCl ((cH k ah aw adr aim ard asc ath awl alo atr sh) ++ (cW k aw sw)) [.ref (ah 0), .int p1] (fun r' w' => r' = (some (.int r)) ∧ w' = ((cH k ah aw adr aim ard asc ath awl alo atr sh) ++ (cW k aw ow))) 0 0 := by
  refine CtW.of (by decide) (Nat.le_of_ble_eq_true rfl) ?_
  intro p e s m args below meth c A hE hA hP hD hS hz ls hl
  obtain ⟨hx, hb, hr, hml, hown, hts, hlocks, hname⟩ := hE
  have hown : s.vm.findClass RX1 = some m.cls := hown
  have hK := hOK.1 _ _ _ hz
  have hN := hOK.2.1 _ _ _ hz
  have hl : lv_has ls 3 [(0, .ref (ah 0)), (1, .int p1)] := hl
  unfold fX1_seed at hrun
  refine lv_aload_n hx hb dX1_seed_0 rfl (lv_at hl 0 rfl) ?_
  refine va_get (ci := 1) (v := .ref (aw 0)) (C := RX1) (T := TX1) (N := 10) hx hb hts in_X1 hown hK hP 0 rfl rfl 0 (by decide) (hts _ q370) (fun _ h9 => h9) rfl dX1_seed_1 ?_
  refine va_getN (ci := 2) (v := .int (wd_seed sw)) (C := RX2) (T := TX2) (N := 21) hx hb hts in_X2 hown hK hP 1 rfl rfl 11 (by decide) (va_Nw.use rfl (hN _ (zN_of q187 rfl))) (fun _ h9 => h9) rfl dX1_seed_4 ?_
  refine lv_istore_n (lv' := [(2, .int (wd_seed sw)), (0, .ref (ah 0)), (1, .int p1)]) hx hb dX1_seed_7 rfl hl (by decide) rfl (fun ls hl => ?_)
  refine lv_aload_n hx hb dX1_seed_8 rfl (lv_at hl 1 rfl) ?_
  refine va_get (ci := 1) (v := .ref (aw 0)) (C := RX1) (T := TX1) (N := 10) hx hb hts in_X1 hown hK hP 0 rfl rfl 0 (by decide) (hts _ q370) (fun _ h9 => h9) rfl dX1_seed_9 ?_
  refine lv_iload_n hx hb dX1_seed_12 rfl (lv_at hl 2 rfl) ?_
  refine va_putN (ci := 2) (v := .int p1) (ty := tyX2 11) (C := RX2) (T := TX2) (N := 21) hx hb hts in_X2 tyX2 tyX2_ok nmX2 hown hK hP hD hS 1 rfl rfl 11 (by decide) (va_Nw.use rfl (hN _ (zN_of q187 rfl))) (fun _ h9 => h9) rfl (tyX2_ok 11 (by decide)) rfl rfl (Nat.le_of_ble_eq_true rfl) dX1_seed_13 (fun H locs hP hD hS => ?_)
  have hP : va_P D zCl ((cH k ah aw adr aim ard asc ath awl alo atr sh) ++ (cW k aw (wd_s_seed sw p1))) H := hP
  have hD : va_D A ((cH k ah aw adr aim ard asc ath awl alo atr sh) ++ (cW k aw (wd_s_seed sw p1))) := hD
  obtain ⟨sw_1, esw_1⟩ : ∃ z : Wd, z = (wd_s_seed sw p1) := ⟨_, rfl⟩
  rw [← esw_1] at hP hD
  have hrun := mlt_s hrun sw_1 esw_1
  refine lv_iload_n hx hb dX1_seed_16 rfl (lv_at hl 0 rfl) ?_
  cases hrun
  exact retW_i hx hb hr hlocks hP hD hS ⟨rfl, rfl⟩ dX1_seed_17
def rX1_hostHas : Room := { frames := 0, cells := 0, slots := 0, locals := 0 }
noncomputable def fX1_hostHas (sh : Kp) (sw : Wd) (p1 : Bool) (p2 : Int32) (p3 : Int32) : Option (Int32) :=
  if p2 = (1 : Int32) then
    some (0 : Int32)
  else
    if p1 = true then
      if p3 = (0 : Int32) then
        some (-20 : Int32)
      else
        some (10 : Int32)
    else
      some (10 : Int32)
theorem kX1_hostHas {R : Room} {s : State} {args : Array Value} {own : String} {idx mc ms : Nat} {rm : Room} (hts : ∀ w ∈ lw_all, w.before args s = true) (hl : Cond.methodLink own idx yX1_hostHas ∈ lw_all) (hrc : rm.cells = mc) (hrs : rm.slots = ms) (hR : rm.frames + 1 ≤ R.frames ∧ 8 + (4 + 11) + rm.locals ≤ R.locals) : CallW R s args own RX1 idx yX1_hostHas cX1_hostHas 4 (some .int) (ws_ yX1_hostHas cX1_hostHas 4 (some .int)) rm mc ms 3 :=
  cwV 3 hts (lw_V hl q1769 qs40 q107 q1770) rfl hrc hrs (by decide +kernel) hR
set_option maxHeartbeats 4000000 in
set_option maxRecDepth 100000 in
theorem mtX1_hostHas (l : Launch) (D : va_G) (k : Nat → ClassId) (ah : Nat → Nat) (aw : Nat → Nat) (adr : Nat → Nat) (aim : Nat → Nat) (ard : Nat → Nat) (asc : Nat → Nat) (ath : Nat → Nat) (awl : Nat → Nat) (alo : Nat → Nat) (atr : Nat → Nat) (Z : zZ) (hOK : zOK D zCl (zTys k) Z) (sh : Kp) (sw : Wd) (p1 : Bool) (p2 : Int32) (p3 : Int32) (r : Int32) (hrun : fX1_hostHas sh sw p1 p2 p3 = some r) :
    CtR l yX1_hostHas cX1_hostHas 4 (some .int) rX1_hostHas Z D zCl ((cH k ah aw adr aim ard asc ath awl alo atr sh) ++ (cW k aw sw)) [.ref (ah 0), .int (bz p1), .int p2, .int p3] (some (.int r)) := by
  refine CtR.of (by decide) (Nat.le_of_ble_eq_true rfl) ?_
  intro p e s m args below meth c hE hP hz ls hl
  obtain ⟨hx, hb, hr, hml, hown, hts, hlocks, hname⟩ := hE
  have hown : s.vm.findClass RX1 = some m.cls := hown
  have hK := hOK.1 _ _ _ hz
  have hN := hOK.2.1 _ _ _ hz
  have hl : lv_has ls 4 [(0, .ref (ah 0)), (1, .int (bz p1)), (2, .int p2), (3, .int p3)] := hl
  unfold fX1_hostHas at hrun
  refine lv_iload_n hx hb dX1_hostHas_0 rfl (lv_at hl 2 rfl) ?_
  refine lv_iconst (v := (1 : Int32)) hx hb dX1_hostHas_1 (by decide) ?_
  refine lv_icmp_ne (tgt := 9) hx hb dX1_hostHas_2 (by decide) (fun c_1 => ?_) (fun c_1 => ?_)
  · have hrun := mif_n c_1 hrun
    refine lv_iload_n hx hb dX1_hostHas_9 rfl (lv_at hl 1 rfl) ?_
    refine lv_if_eq (tgt := 22) hx hb dX1_hostHas_10 (by decide) (fun c_2 => ?_) (fun c_2 => ?_)
    · have hrun := mif_n (bz_z c_2) hrun
      refine lv_bipush (v := (10 : Int32)) hx hb dX1_hostHas_22 (by decide) ?_
      cases hrun
      exact retR_i hx hb hr hlocks rfl dX1_hostHas_24
    have hrun := mif_p (bz_nz c_2) hrun
    refine lv_iload_n hx hb dX1_hostHas_13 rfl (lv_at hl 3 rfl) ?_
    refine lv_if_ne (tgt := 22) hx hb dX1_hostHas_14 (by decide) (fun c_3 => ?_) (fun c_3 => ?_)
    · have hrun := mif_n c_3 hrun
      refine lv_bipush (v := (10 : Int32)) hx hb dX1_hostHas_22 (by decide) ?_
      cases hrun
      exact retR_i hx hb hr hlocks rfl dX1_hostHas_24
    have hrun := mif_p c_3 hrun
    refine lv_bipush (v := (-20 : Int32)) hx hb dX1_hostHas_17 (by decide) ?_
    refine lv_goto (tgt := 24) hx hb dX1_hostHas_19 (by decide) ?_
    cases hrun
    exact retR_i hx hb hr hlocks rfl dX1_hostHas_24
  have hrun := mif_p c_1 hrun
  refine lv_iconst (v := (0 : Int32)) hx hb dX1_hostHas_5 (by decide) ?_
  refine lv_goto (tgt := 24) hx hb dX1_hostHas_6 (by decide) ?_
  cases hrun
  exact retR_i hx hb hr hlocks rfl dX1_hostHas_24
def rX1_guestHas : Room := { frames := 0, cells := 0, slots := 0, locals := 0 }
noncomputable def fX1_guestHas (sh : Kp) (sw : Wd) (p1 : Int32) (p2 : Bool) (p3 : Int32) (p4 : Int32) : Option (Int32) :=
  if p4 = (1 : Int32) then
    some (0 : Int32)
  else
    if p2 = true then
      if p3 = (0 : Int32) then
        mck p1 8 <|
        some ((wd_wish sw) (Int32.toNatClampNeg p1))
      else
        some (-3 : Int32)
    else
      some (-3 : Int32)
theorem kX1_guestHas {R : Room} {s : State} {args : Array Value} {own : String} {idx mc ms : Nat} {rm : Room} (hts : ∀ w ∈ lw_all, w.before args s = true) (hl : Cond.methodLink own idx yX1_guestHas ∈ lw_all) (hrc : rm.cells = mc) (hrs : rm.slots = ms) (hR : rm.frames + 1 ≤ R.frames ∧ 8 + (5 + 11) + rm.locals ≤ R.locals) : CallW R s args own RX1 idx yX1_guestHas cX1_guestHas 5 (some .int) (ws_ yX1_guestHas cX1_guestHas 5 (some .int)) rm mc ms 4 :=
  cwV 4 hts (lw_V hl q1773 qs41 q107 q1774) rfl hrc hrs (by decide +kernel) hR
set_option maxHeartbeats 4000000 in
set_option maxRecDepth 100000 in
theorem mtX1_guestHas (l : Launch) (D : va_G) (k : Nat → ClassId) (ah : Nat → Nat) (aw : Nat → Nat) (adr : Nat → Nat) (aim : Nat → Nat) (ard : Nat → Nat) (asc : Nat → Nat) (ath : Nat → Nat) (awl : Nat → Nat) (alo : Nat → Nat) (atr : Nat → Nat) (Z : zZ) (hOK : zOK D zCl (zTys k) Z) (sh : Kp) (sw : Wd) (p1 : Int32) (p2 : Bool) (p3 : Int32) (p4 : Int32) (r : Int32) (hrun : fX1_guestHas sh sw p1 p2 p3 p4 = some r) :
    CtR l yX1_guestHas cX1_guestHas 5 (some .int) rX1_guestHas Z D zCl ((cH k ah aw adr aim ard asc ath awl alo atr sh) ++ (cW k aw sw)) [.ref (ah 0), .int p1, .int (bz p2), .int p3, .int p4] (some (.int r)) := by
  refine CtR.of (by decide) (Nat.le_of_ble_eq_true rfl) ?_
  intro p e s m args below meth c hE hP hz ls hl
  obtain ⟨hx, hb, hr, hml, hown, hts, hlocks, hname⟩ := hE
  have hown : s.vm.findClass RX1 = some m.cls := hown
  have hK := hOK.1 _ _ _ hz
  have hN := hOK.2.1 _ _ _ hz
  have hl : lv_has ls 5 [(0, .ref (ah 0)), (1, .int p1), (2, .int (bz p2)), (3, .int p3), (4, .int p4)] := hl
  unfold fX1_guestHas at hrun
  refine lv_iload hx hb dX1_guestHas_0 (lv_at hl 4 rfl) ?_
  refine lv_iconst (v := (1 : Int32)) hx hb dX1_guestHas_2 (by decide) ?_
  refine lv_icmp_ne (tgt := 10) hx hb dX1_guestHas_3 (by decide) (fun c_1 => ?_) (fun c_1 => ?_)
  · have hrun := mif_n c_1 hrun
    refine lv_iload_n hx hb dX1_guestHas_10 rfl (lv_at hl 2 rfl) ?_
    refine lv_if_eq (tgt := 30) hx hb dX1_guestHas_11 (by decide) (fun c_2 => ?_) (fun c_2 => ?_)
    · have hrun := mif_n (bz_z c_2) hrun
      refine lv_bipush (v := (-3 : Int32)) hx hb dX1_guestHas_30 (by decide) ?_
      cases hrun
      exact retR_i hx hb hr hlocks rfl dX1_guestHas_32
    have hrun := mif_p (bz_nz c_2) hrun
    refine lv_iload_n hx hb dX1_guestHas_14 rfl (lv_at hl 3 rfl) ?_
    refine lv_if_ne (tgt := 30) hx hb dX1_guestHas_15 (by decide) (fun c_3 => ?_) (fun c_3 => ?_)
    · have hrun := mif_n c_3 hrun
      refine lv_bipush (v := (-3 : Int32)) hx hb dX1_guestHas_30 (by decide) ?_
      cases hrun
      exact retR_i hx hb hr hlocks rfl dX1_guestHas_32
    have hrun := mif_p c_3 hrun
    refine lv_aload_n hx hb dX1_guestHas_18 rfl (lv_at hl 0 rfl) ?_
    refine va_get (ci := 1) (v := .ref (aw 0)) (C := RX1) (T := TX1) (N := 10) hx hb hts in_X1 hown hK hP 0 rfl rfl 0 (by decide) (hts _ q370) (fun _ h9 => h9) rfl dX1_guestHas_19 ?_
    refine va_getN (ci := 2) (v := .ref (aw 3)) (C := RX2) (T := TX2) (N := 21) hx hb hts in_X2 hown hK hP 1 rfl rfl 14 (by decide) (va_Nw.use rfl (hN _ (zN_of q194 rfl))) (fun _ h9 => h9) rfl dX1_guestHas_22 ?_
    refine lv_iload_n hx hb dX1_guestHas_25 rfl (lv_at hl 1 rfl) ?_
    obtain ⟨hb_4, hrun⟩ := mck_s rfl hrun
    refine va_iald hx hb hK hP 4 0 rfl rfl hb_4 dX1_guestHas_26 ?_
    refine lv_goto (tgt := 32) hx hb dX1_guestHas_27 (by decide) ?_
    cases hrun
    exact retR_i hx hb hr hlocks rfl dX1_guestHas_32
  have hrun := mif_p c_1 hrun
  refine lv_iconst (v := (0 : Int32)) hx hb dX1_guestHas_6 (by decide) ?_
  refine lv_goto (tgt := 32) hx hb dX1_guestHas_7 (by decide) ?_
  cases hrun
  exact retR_i hx hb hr hlocks rfl dX1_guestHas_32
def rX1_there : Room := { frames := 6, cells := 1, slots := 6, locals := 89 }
noncomputable def fX1_there (p0 : Int32) (p1 : Int32) : Option ((String) ⊕ (Unit)) :=
  mob (fX1_in p0 (0 : Int32) (p1 - (1 : Int32))) fun r_2 =>
  if r_2 = true then
    some (.inr ())
  else
    some (.inl "java/lang/IndexOutOfBoundsException")
theorem kX1_there {R : Room} {s : State} {args : Array Value} {own : String} {idx mc ms : Nat} {rm : Room} (hts : ∀ w ∈ lw_all, w.before args s = true) (hl : Cond.methodLink own idx yX1_there ∈ lw_all) (hrc : rm.cells = mc) (hrs : rm.slots = ms) (hR : rm.frames + 1 ≤ R.frames ∧ 8 + (2 + 11) + rm.locals ≤ R.locals) : CallB R s args own idx yX1_there cX1_there 2 none (ws_ yX1_there cX1_there 2 none) rm mc ms 2 ∧ (Cond.static yX1_there).before args s = true :=
  va_cwS 2 hts (lw_S hl q1557 q107 q1558) rfl hrc hrs (by decide +kernel) hR
set_option maxHeartbeats 4000000 in
set_option maxRecDepth 100000 in
theorem mtX1_there (l : Launch) (D : va_G) (Z : zZ) {tys : List (ClassId × FieldType)} (hOK : zOK D zCl tys Z) (hlt : l.stackTraces = false) (hTh : zTh Z) (p0 : Int32) (p1 : Int32) (o : (String) ⊕ (Unit)) (hrun : fX1_there p0 p1 = some o) :
    CtX l yX1_there cX1_there 2 none rX1_there Z D zCl [] [.int p0, .int p1] (fun r' w' => o = .inr () ∧ r' = none ∧ w' = []) (fun E' w' => o = .inl E' ∧ w' = []) 1 6 := by
  refine CtX.of (by decide) (Nat.le_of_ble_eq_true rfl) ?_
  intro p e s m args below meth c A hE hnoh hA hP hD hS hz ls hl
  obtain ⟨hx, hb, hr, hml, hown, hts, hlocks, hname⟩ := hE
  have hown : s.vm.findClass RX1 = some m.cls := hown
  have hK := hOK.1 _ _ _ hz
  have hN := hOK.2.1 _ _ _ hz
  have hl : lv_has ls 2 [(0, .int p0), (1, .int p1)] := hl
  unfold fX1_there at hrun
  refine lv_iload_n hx hb dX1_there_0 rfl (lv_at hl 0 rfl) ?_
  refine lv_iconst (v := (0 : Int32)) hx hb dX1_there_1 (by decide) ?_
  refine lv_iload_n hx hb dX1_there_2 rfl (lv_at hl 1 rfl) ?_
  refine lv_iconst (v := (1 : Int32)) hx hb dX1_there_3 (by decide) ?_
  refine lv_isub hx hb dX1_there_4 ?_
  obtain ⟨r_2, hc_1, hrun⟩ := mob_s rfl hrun
  refine cRS (ws := []) (As := [.int p0, .int (0 : Int32), .int (p1 - (1 : Int32))]) ⟨hx, hb, hml, hown, hts⟩ hOK hz hS zP0 (mtX1_in l D Z hOK _ _ _ _ hc_1) (kX1_in hts q647 rfl rfl ⟨Nat.le_of_ble_eq_true rfl, Nat.le_of_ble_eq_true rfl⟩) rfl hl.1 rfl (lv_room (Nat.le_of_ble_eq_true rfl)) ⟨Nat.le_of_ble_eq_true rfl, Nat.le_of_ble_eq_true rfl⟩ dX1_there_5 ?_
  refine lv_if_ne (tgt := 19) hx hb dX1_there_8 (by decide) (fun c_3 => ?_) (fun c_3 => ?_)
  · have hrun := mif_p (bz_nz c_3) hrun
    cases hrun
    refine W.widen (k := 1) (n := 6) (Nat.le_of_ble_eq_true rfl) (Nat.le_of_ble_eq_true rfl) ?_
    exact vx_ret (retW_v hx hb hr hlocks hP hD hS ⟨rfl, rfl, rfl⟩ dX1_there_19)
  have hrun := mif_n (bz_z c_3) hrun
  cases hrun
  exact zthrow (own := "SaturdayKeep") (cls := "java/lang/IndexOutOfBoundsException") (names := ["java/lang/RuntimeException", "java/lang/Exception"]) hx hb hlt hown (by decide +kernel) (by decide +kernel) (hts _ q1559) (hts _ q144) (xtX1_IOB hts hN) xgX1_IOB hTh hz hlocks hP hD hS hA (hl.1.trans hml.symm) ⟨rfl, rfl⟩ dX1_there_11 dX1_there_14 dX1_there_15 dX1_there_18 hnoh (Nat.le_of_ble_eq_true rfl) (Nat.le_of_ble_eq_true rfl) (Nat.le_of_ble_eq_true rfl) (Nat.le_of_ble_eq_true rfl) (Nat.le_of_ble_eq_true rfl) (Nat.le_of_ble_eq_true rfl)
def rX1_demand : Room := { frames := 6, cells := 1, slots := 6, locals := 89 }
noncomputable def fX1_demand (p0 : Bool) : Option ((String) ⊕ (Unit)) :=
  if p0 = true then
    some (.inr ())
  else
    some (.inl "java/lang/IllegalArgumentException")
theorem kX1_demand {R : Room} {s : State} {args : Array Value} {own : String} {idx mc ms : Nat} {rm : Room} (hts : ∀ w ∈ lw_all, w.before args s = true) (hl : Cond.methodLink own idx yX1_demand ∈ lw_all) (hrc : rm.cells = mc) (hrs : rm.slots = ms) (hR : rm.frames + 1 ≤ R.frames ∧ 8 + (1 + 11) + rm.locals ≤ R.locals) : CallB R s args own idx yX1_demand cX1_demand 1 none (ws_ yX1_demand cX1_demand 1 none) rm mc ms 1 ∧ (Cond.static yX1_demand).before args s = true :=
  va_cwS 1 hts (lw_S hl q1628 q107 q1629) rfl hrc hrs (by decide +kernel) hR
set_option maxHeartbeats 4000000 in
set_option maxRecDepth 100000 in
theorem mtX1_demand (l : Launch) (D : va_G) (Z : zZ) {tys : List (ClassId × FieldType)} (hOK : zOK D zCl tys Z) (hlt : l.stackTraces = false) (hTh : zTh Z) (p0 : Bool) (o : (String) ⊕ (Unit)) (hrun : fX1_demand p0 = some o) :
    CtX l yX1_demand cX1_demand 1 none rX1_demand Z D zCl [] [.int (bz p0)] (fun r' w' => o = .inr () ∧ r' = none ∧ w' = []) (fun E' w' => o = .inl E' ∧ w' = []) 1 6 := by
  refine CtX.of (by decide) (Nat.le_of_ble_eq_true rfl) ?_
  intro p e s m args below meth c A hE hnoh hA hP hD hS hz ls hl
  obtain ⟨hx, hb, hr, hml, hown, hts, hlocks, hname⟩ := hE
  have hown : s.vm.findClass RX1 = some m.cls := hown
  have hK := hOK.1 _ _ _ hz
  have hN := hOK.2.1 _ _ _ hz
  have hl : lv_has ls 1 [(0, .int (bz p0))] := hl
  unfold fX1_demand at hrun
  refine lv_iload_n hx hb dX1_demand_0 rfl (lv_at hl 0 rfl) ?_
  refine lv_if_ne (tgt := 12) hx hb dX1_demand_1 (by decide) (fun c_1 => ?_) (fun c_1 => ?_)
  · have hrun := mif_p (bz_nz c_1) hrun
    cases hrun
    refine W.widen (k := 1) (n := 6) (Nat.le_of_ble_eq_true rfl) (Nat.le_of_ble_eq_true rfl) ?_
    exact vx_ret (retW_v hx hb hr hlocks hP hD hS ⟨rfl, rfl, rfl⟩ dX1_demand_12)
  have hrun := mif_n (bz_z c_1) hrun
  cases hrun
  exact zthrow (own := "SaturdayKeep") (cls := "java/lang/IllegalArgumentException") (names := ["java/lang/RuntimeException", "java/lang/Exception"]) hx hb hlt hown (by decide +kernel) (by decide +kernel) (hts _ q1270) (hts _ q129) (xtX1_IAE hts hN) xgX1_IAE hTh hz hlocks hP hD hS hA (hl.1.trans hml.symm) ⟨rfl, rfl⟩ dX1_demand_4 dX1_demand_7 dX1_demand_8 dX1_demand_11 hnoh (Nat.le_of_ble_eq_true rfl) (Nat.le_of_ble_eq_true rfl) (Nat.le_of_ble_eq_true rfl) (Nat.le_of_ble_eq_true rfl) (Nat.le_of_ble_eq_true rfl) (Nat.le_of_ble_eq_true rfl)
def rX1_question : Room := { frames := 6, cells := 1, slots := 6, locals := 89 }
noncomputable def fX1_question (p0 : Int32) (p1 : Int32) : Option ((String) ⊕ (Unit)) :=
  mob (fX1_in p0 (0 : Int32) p1) fun r_2 =>
  if r_2 = true then
    some (.inr ())
  else
    some (.inl "java/util/NoSuchElementException")
theorem kX1_question {R : Room} {s : State} {args : Array Value} {own : String} {idx mc ms : Nat} {rm : Room} (hts : ∀ w ∈ lw_all, w.before args s = true) (hl : Cond.methodLink own idx yX1_question ∈ lw_all) (hrc : rm.cells = mc) (hrs : rm.slots = ms) (hR : rm.frames + 1 ≤ R.frames ∧ 8 + (2 + 11) + rm.locals ≤ R.locals) : CallB R s args own idx yX1_question cX1_question 2 none (ws_ yX1_question cX1_question 2 none) rm mc ms 2 ∧ (Cond.static yX1_question).before args s = true :=
  va_cwS 2 hts (lw_S hl q1575 q107 q1576) rfl hrc hrs (by decide +kernel) hR
set_option maxHeartbeats 4000000 in
set_option maxRecDepth 100000 in
theorem mtX1_question (l : Launch) (D : va_G) (Z : zZ) {tys : List (ClassId × FieldType)} (hOK : zOK D zCl tys Z) (hlt : l.stackTraces = false) (hTh : zTh Z) (p0 : Int32) (p1 : Int32) (o : (String) ⊕ (Unit)) (hrun : fX1_question p0 p1 = some o) :
    CtX l yX1_question cX1_question 2 none rX1_question Z D zCl [] [.int p0, .int p1] (fun r' w' => o = .inr () ∧ r' = none ∧ w' = []) (fun E' w' => o = .inl E' ∧ w' = []) 1 6 := by
  refine CtX.of (by decide) (Nat.le_of_ble_eq_true rfl) ?_
  intro p e s m args below meth c A hE hnoh hA hP hD hS hz ls hl
  obtain ⟨hx, hb, hr, hml, hown, hts, hlocks, hname⟩ := hE
  have hown : s.vm.findClass RX1 = some m.cls := hown
  have hK := hOK.1 _ _ _ hz
  have hN := hOK.2.1 _ _ _ hz
  have hl : lv_has ls 2 [(0, .int p0), (1, .int p1)] := hl
  unfold fX1_question at hrun
  refine lv_iload_n hx hb dX1_question_0 rfl (lv_at hl 0 rfl) ?_
  refine lv_iconst (v := (0 : Int32)) hx hb dX1_question_1 (by decide) ?_
  refine lv_iload_n hx hb dX1_question_2 rfl (lv_at hl 1 rfl) ?_
  obtain ⟨r_2, hc_1, hrun⟩ := mob_s rfl hrun
  refine cRS (ws := []) (As := [.int p0, .int (0 : Int32), .int p1]) ⟨hx, hb, hml, hown, hts⟩ hOK hz hS zP0 (mtX1_in l D Z hOK _ _ _ _ hc_1) (kX1_in hts q647 rfl rfl ⟨Nat.le_of_ble_eq_true rfl, Nat.le_of_ble_eq_true rfl⟩) rfl hl.1 rfl (lv_room (Nat.le_of_ble_eq_true rfl)) ⟨Nat.le_of_ble_eq_true rfl, Nat.le_of_ble_eq_true rfl⟩ dX1_question_3 ?_
  refine lv_if_ne (tgt := 17) hx hb dX1_question_6 (by decide) (fun c_3 => ?_) (fun c_3 => ?_)
  · have hrun := mif_p (bz_nz c_3) hrun
    cases hrun
    refine W.widen (k := 1) (n := 6) (Nat.le_of_ble_eq_true rfl) (Nat.le_of_ble_eq_true rfl) ?_
    exact vx_ret (retW_v hx hb hr hlocks hP hD hS ⟨rfl, rfl, rfl⟩ dX1_question_17)
  have hrun := mif_n (bz_z c_3) hrun
  cases hrun
  exact zthrow (own := "SaturdayKeep") (cls := "java/util/NoSuchElementException") (names := ["java/lang/RuntimeException", "java/lang/Exception"]) hx hb hlt hown (by decide +kernel) (by decide +kernel) (hts _ q1577) (hts _ q146) (xtX1_NSE hts hN) xgX1_NSE hTh hz hlocks hP hD hS hA (hl.1.trans hml.symm) ⟨rfl, rfl⟩ dX1_question_9 dX1_question_12 dX1_question_13 dX1_question_16 hnoh (Nat.le_of_ble_eq_true rfl) (Nat.le_of_ble_eq_true rfl) (Nat.le_of_ble_eq_true rfl) (Nat.le_of_ble_eq_true rfl) (Nat.le_of_ble_eq_true rfl) (Nat.le_of_ble_eq_true rfl)
def rX1_roomAt : Room := { frames := 7, cells := 1, slots := 6, locals := 110 }
noncomputable def fX1_roomAt (p0 : Int32) : Option ((String) ⊕ (Unit)) :=
  mox (fX1_there p0 (8 : Int32)) (fun E_3 => some (.inl E_3)) fun _ =>
  some (.inr ())
theorem kX1_roomAt {R : Room} {s : State} {args : Array Value} {own : String} {idx mc ms : Nat} {rm : Room} (hts : ∀ w ∈ lw_all, w.before args s = true) (hl : Cond.methodLink own idx yX1_roomAt ∈ lw_all) (hrc : rm.cells = mc) (hrs : rm.slots = ms) (hR : rm.frames + 1 ≤ R.frames ∧ 8 + (1 + 11) + rm.locals ≤ R.locals) : CallB R s args own idx yX1_roomAt cX1_roomAt 1 none (ws_ yX1_roomAt cX1_roomAt 1 none) rm mc ms 1 ∧ (Cond.static yX1_roomAt).before args s = true :=
  va_cwS 1 hts (lw_S hl q1604 q107 q1605) rfl hrc hrs (by decide +kernel) hR
set_option maxHeartbeats 4000000 in
set_option maxRecDepth 100000 in
theorem mtX1_roomAt (l : Launch) (D : va_G) (Z : zZ) {tys : List (ClassId × FieldType)} (hOK : zOK D zCl tys Z) (hlt : l.stackTraces = false) (hTh : zTh Z) (p0 : Int32) (o : (String) ⊕ (Unit)) (hrun : fX1_roomAt p0 = some o) :
    CtX l yX1_roomAt cX1_roomAt 1 none rX1_roomAt Z D zCl [] [.int p0] (fun r' w' => o = .inr () ∧ r' = none ∧ w' = []) (fun E' w' => o = .inl E' ∧ w' = []) 1 6 := by
  refine CtX.of (by decide) (Nat.le_of_ble_eq_true rfl) ?_
  intro p e s m args below meth c A hE hnoh hA hP hD hS hz ls hl
  obtain ⟨hx, hb, hr, hml, hown, hts, hlocks, hname⟩ := hE
  have hown : s.vm.findClass RX1 = some m.cls := hown
  have hK := hOK.1 _ _ _ hz
  have hN := hOK.2.1 _ _ _ hz
  have hl : lv_has ls 1 [(0, .int p0)] := hl
  unfold fX1_roomAt at hrun
  refine lv_iload_n hx hb dX1_roomAt_0 rfl (lv_at hl 0 rfl) ?_
  refine lv_bipush (v := (8 : Int32)) hx hb dX1_roomAt_1 (by decide) ?_
  obtain ⟨o_2, hc_1, hrun⟩ := mox_s rfl hrun
  have hP := hP.sub (ws' := ([] ++ ([] ++ []))) [] rfl
  have hD := hD.sub (ws' := ([] ++ ([] ++ []))) [] (by decide) rfl
  refine cXS [] [] [] (As := [.int p0, .int (8 : Int32)]) ⟨hx, hb, hml, hown, hts⟩ hOK hz hS hA hP hD (mtX1_there l D Z hOK hlt hTh _ _ o_2 hc_1) (kX1_there hts q1556 rfl rfl ⟨Nat.le_of_ble_eq_true rfl, Nat.le_of_ble_eq_true rfl⟩) rfl hl.1 rfl (lv_room (Nat.le_of_ble_eq_true rfl)) ⟨Nat.le_of_ble_eq_true rfl, Nat.le_of_ble_eq_true rfl⟩ dX1_roomAt_3 (fun E_ w_ ce_ q9_ H locs hq hP hD hS hce hcv hcl => ?_) (fun r_ w_ H locs hq hP hD hS => ?_)
  · obtain ⟨rfl, rfl⟩ := hq
    have hrun := moxl hrun
    cases hrun
    have hP := hP.sub (ws' := []) [] rfl
    have hD := hD.sub (ws' := []) [] (by decide) rfl
    exact zout hnoh hlocks hce hcv hcl hP hD hS ⟨rfl, rfl⟩ (Nat.le_of_ble_eq_true rfl) (Nat.le_of_ble_eq_true rfl)
  obtain ⟨rfl, rfl, rfl⟩ := hq
  have hrun := moxr hrun
  have hP := hP.sub (ws' := []) [] rfl
  have hD := hD.sub (ws' := []) [] (by decide) rfl
  cases hrun
  refine W.widen (k := 1) (n := 6) (Nat.le_of_ble_eq_true rfl) (Nat.le_of_ble_eq_true rfl) ?_
  exact vx_ret (retW_v hx hb hr hlocks hP hD hS ⟨rfl, rfl, rfl⟩ dX1_roomAt_6)
