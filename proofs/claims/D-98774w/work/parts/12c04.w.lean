/-! walks: X1_nextSaturday, X1_both, X1_oddsOf, X1_mend, X1_areShut -/
def rX1_nextSaturday : Room := { frames := 1, cells := 0, slots := 0, locals := 22 }
noncomputable def fX1_nextSaturday_L2 (sw : Wd) (p1 : Int32) : Nat → Int32 → Option (Int32)
  | 0, _ => none
  | n + 1, x2_2 =>
    mob (fX2_isSaturday sw p1 ((wd_day sw) + x2_2)) fun r_4 =>
    if r_4 = true then
      some x2_2
    else
      fX1_nextSaturday_L2 sw p1 n (x2_2 + (1 : Int32))
noncomputable def fX1_nextSaturday (sh : Kp) (sw : Wd) (p1 : Int32) : Option (Int32) :=
  fX1_nextSaturday_L2 sw p1 mFU (0 : Int32)
theorem kX1_nextSaturday {R : Room} {s : State} {args : Array Value} {own : String} {idx mc ms : Nat} {rm : Room} (hts : ∀ w ∈ lw_all, w.before args s = true) (hl : Cond.methodLink own idx yX1_nextSaturday ∈ lw_all) (hrc : rm.cells = mc) (hrs : rm.slots = ms) (hR : rm.frames + 1 ≤ R.frames ∧ 8 + (3 + 11) + rm.locals ≤ R.locals) : CallW R s args own RX1 idx yX1_nextSaturday cX1_nextSaturday 3 (some .int) (ws_ yX1_nextSaturday cX1_nextSaturday 3 (some .int)) rm mc ms 1 :=
  cwV 1 hts (lw_V hl q1618 qs36 q107 q1619) rfl hrc hrs (by decide +kernel) hR
set_option maxHeartbeats 4000000 in
set_option maxRecDepth 100000 in
theorem mtX1_nextSaturday (l : Launch) (D : va_G) (k : Nat → ClassId) (ah : Nat → Nat) (aw : Nat → Nat) (adr : Nat → Nat) (aim : Nat → Nat) (ard : Nat → Nat) (asc : Nat → Nat) (ath : Nat → Nat) (awl : Nat → Nat) (alo : Nat → Nat) (atr : Nat → Nat) (Z : zZ) (hOK : zOK D zCl (zTys k) Z) (sh : Kp) (sw : Wd) (p1 : Int32) (r : Int32) (hrun : fX1_nextSaturday sh sw p1 = some r) :
    CtR l yX1_nextSaturday cX1_nextSaturday 3 (some .int) rX1_nextSaturday Z D zCl ((cH k ah aw adr aim ard asc ath awl alo atr sh) ++ (cW k aw sw)) [.ref (ah 0), .int p1] (some (.int r)) := by
  refine CtR.of (by decide) (Nat.le_of_ble_eq_true rfl) ?_
  intro p e s m args below meth c hE hP hz ls hl
  obtain ⟨hx, hb, hr, hml, hown, hts, hlocks, hname⟩ := hE
  have hown : s.vm.findClass RX1 = some m.cls := hown
  have hK := hOK.1 _ _ _ hz
  have hN := hOK.2.1 _ _ _ hz
  have hl : lv_has ls 3 [(0, .ref (ah 0)), (1, .int p1)] := hl
  unfold fX1_nextSaturday at hrun
  refine lv_iconst (v := (0 : Int32)) hx hb dX1_nextSaturday_0 (by decide) ?_
  refine lv_istore_n (lv' := [(2, .int (0 : Int32)), (0, .ref (ah 0)), (1, .int p1)]) hx hb dX1_nextSaturday_1 rfl hl (by decide) rfl (fun ls hl => ?_)
  have hL_1 : ∀ n : Nat, ∀ (x2_2 : Int32), ∀ ls : Array Slot, lv_has ls 3 [(0, .ref (ah 0)), (1, .int p1), (2, .int x2_2)] → fX1_nextSaturday_L2 sw p1 n x2_2 = some r → W p l e rX1_nextSaturday s m args below meth c s.heap [] 0 0 (MQ below (QRr (some (.int r))) args s 0 0 (fun _ => False)) (F0 m 2 ls []) := by
    intro n
    induction n with
    | zero =>
      intro x2_2 ls hl hrun
      exact nomatch hrun
    | succ n ih =>
      intro x2_2 ls hl hrun
      rw [fX1_nextSaturday_L2.eq_2] at hrun
      refine lv_aload_n hx hb dX1_nextSaturday_2 rfl (lv_at hl 0 rfl) ?_
      refine va_get (ci := 1) (v := .ref (aw 0)) (C := RX1) (T := TX1) (N := 10) hx hb hts in_X1 hown hK hP 0 rfl rfl 0 (by decide) (hts _ q370) (fun _ h9 => h9) rfl dX1_nextSaturday_3 ?_
      refine lv_iload_n hx hb dX1_nextSaturday_6 rfl (lv_at hl 1 rfl) ?_
      refine lv_aload_n hx hb dX1_nextSaturday_7 rfl (lv_at hl 0 rfl) ?_
      refine va_get (ci := 1) (v := .ref (aw 0)) (C := RX1) (T := TX1) (N := 10) hx hb hts in_X1 hown hK hP 0 rfl rfl 0 (by decide) (hts _ q370) (fun _ h9 => h9) rfl dX1_nextSaturday_8 ?_
      refine va_getN (ci := 2) (v := .int (wd_day sw)) (C := RX2) (T := TX2) (N := 21) hx hb hts in_X2 hown hK hP 1 rfl rfl 2 (by decide) (va_Nw.use rfl (hN _ (zN_of q168 rfl))) (fun _ h9 => h9) rfl dX1_nextSaturday_11 ?_
      refine lv_iload_n hx hb dX1_nextSaturday_14 rfl (lv_at hl 2 rfl) ?_
      refine lv_iadd hx hb dX1_nextSaturday_15 ?_
      obtain ⟨r_4, hc_3, hrun⟩ := mob_s rfl hrun
      refine cRV (As := [.int p1, .int ((wd_day sw) + x2_2)]) (ci := 2) ⟨hx, hb, hml, hown, hts⟩ hOK hz va_S.rf (hP.sub (ws' := (cW k aw sw)) [1, 2, 3, 4, 5, 6, 7, 8, 9] rfl) (mtX2_isSaturday l D k aw Z hOK _ _ _ _ hc_3) (kX2_isSaturday hts q426 rfl rfl ⟨Nat.le_of_ble_eq_true rfl, Nat.le_of_ble_eq_true rfl⟩) 0 rfl rfl rfl hl.1 rfl (lv_room (Nat.le_of_ble_eq_true rfl)) ⟨Nat.le_of_ble_eq_true rfl, Nat.le_of_ble_eq_true rfl⟩ dX1_nextSaturday_16 ?_
      refine lv_if_ne (tgt := 28) hx hb dX1_nextSaturday_19 (by decide) (fun c_5 => ?_) (fun c_5 => ?_)
      · have hrun := mif_p (bz_nz c_5) hrun
        refine lv_iload_n hx hb dX1_nextSaturday_28 rfl (lv_at hl 2 rfl) ?_
        cases hrun
        exact retR_i hx hb hr hlocks rfl dX1_nextSaturday_29
      have hrun := mif_n (bz_z c_5) hrun
      refine lv_iinc (v := (x2_2 + (1 : Int32))) (lv' := [(2, .int (x2_2 + (1 : Int32))), (0, .ref (ah 0)), (1, .int p1)]) hx hb dX1_nextSaturday_22 hl (k := 2) rfl rfl (by decide) rfl (fun ls hl => ?_)
      refine lv_goto (tgt := 2) hx hb dX1_nextSaturday_25 (by decide) ?_
      exact ih (x2_2 + (1 : Int32)) ls (lv_sub hl [1, 2, 0] rfl) hrun
  exact hL_1 mFU (0 : Int32) ls (lv_sub hl [1, 2, 0] rfl) hrun
def rX1_both : Room := { frames := 1, cells := 0, slots := 0, locals := 22 }
noncomputable def fX1_both_L2 (sw : Wd) : Nat → Int32 → Option (Int32)
  | 0, _ => none
  | n + 1, x1_2 =>
    if (400 : Int32) < x1_2 then
      some (-1 : Int32)
    else
      mob (fX2_isSaturday sw (0 : Int32) ((wd_day sw) + x1_2)) fun r_5 =>
      if r_5 = true then
        mob (fX2_isSaturday sw (1 : Int32) ((wd_day sw) + x1_2)) fun r_8 =>
        if r_8 = true then
          some x1_2
        else
          fX1_both_L2 sw n (x1_2 + (1 : Int32))
      else
        fX1_both_L2 sw n (x1_2 + (1 : Int32))
noncomputable def fX1_both (sh : Kp) (sw : Wd) : Option (Int32) :=
  fX1_both_L2 sw mFU (0 : Int32)
theorem kX1_both {R : Room} {s : State} {args : Array Value} {own : String} {idx mc ms : Nat} {rm : Room} (hts : ∀ w ∈ lw_all, w.before args s = true) (hl : Cond.methodLink own idx yX1_both ∈ lw_all) (hrc : rm.cells = mc) (hrs : rm.slots = ms) (hR : rm.frames + 1 ≤ R.frames ∧ 8 + (2 + 11) + rm.locals ≤ R.locals) : CallW R s args own RX1 idx yX1_both cX1_both 2 (some .int) (ws_ yX1_both cX1_both 2 (some .int)) rm mc ms 0 :=
  cwV 0 hts (lw_V hl q423 q424 q107 q425) rfl hrc hrs (by decide +kernel) hR
set_option maxHeartbeats 4000000 in
set_option maxRecDepth 100000 in
theorem mtX1_both (l : Launch) (D : va_G) (k : Nat → ClassId) (ah : Nat → Nat) (aw : Nat → Nat) (adr : Nat → Nat) (aim : Nat → Nat) (ard : Nat → Nat) (asc : Nat → Nat) (ath : Nat → Nat) (awl : Nat → Nat) (alo : Nat → Nat) (atr : Nat → Nat) (Z : zZ) (hOK : zOK D zCl (zTys k) Z) (sh : Kp) (sw : Wd) (r : Int32) (hrun : fX1_both sh sw = some r) :
    CtR l yX1_both cX1_both 2 (some .int) rX1_both Z D zCl ((cH k ah aw adr aim ard asc ath awl alo atr sh) ++ (cW k aw sw)) [.ref (ah 0)] (some (.int r)) := by
  refine CtR.of (by decide) (Nat.le_of_ble_eq_true rfl) ?_
  intro p e s m args below meth c hE hP hz ls hl
  obtain ⟨hx, hb, hr, hml, hown, hts, hlocks, hname⟩ := hE
  have hown : s.vm.findClass RX1 = some m.cls := hown
  have hK := hOK.1 _ _ _ hz
  have hN := hOK.2.1 _ _ _ hz
  have hl : lv_has ls 2 [(0, .ref (ah 0))] := hl
  unfold fX1_both at hrun
  refine lv_iconst (v := (0 : Int32)) hx hb dX1_both_0 (by decide) ?_
  refine lv_istore_n (lv' := [(1, .int (0 : Int32)), (0, .ref (ah 0))]) hx hb dX1_both_1 rfl hl (by decide) rfl (fun ls hl => ?_)
  have hL_1 : ∀ n : Nat, ∀ (x1_2 : Int32), ∀ ls : Array Slot, lv_has ls 2 [(0, .ref (ah 0)), (1, .int x1_2)] → fX1_both_L2 sw n x1_2 = some r → W p l e rX1_both s m args below meth c s.heap [] 0 0 (MQ below (QRr (some (.int r))) args s 0 0 (fun _ => False)) (F0 m 2 ls []) := by
    intro n
    induction n with
    | zero =>
      intro x1_2 ls hl hrun
      exact nomatch hrun
    | succ n ih =>
      intro x1_2 ls hl hrun
      rw [fX1_both_L2.eq_2] at hrun
      refine lv_iload_n hx hb dX1_both_2 rfl (lv_at hl 1 rfl) ?_
      refine lv_sipush (v := (400 : Int32)) hx hb dX1_both_3 (by decide) ?_
      refine lv_icmp_gt (tgt := 57) hx hb dX1_both_6 (by decide) (fun c_3 => ?_) (fun c_3 => ?_)
      · have hrun := mif_p c_3 hrun
        refine lv_iconst (v := (-1 : Int32)) hx hb dX1_both_57 (by decide) ?_
        cases hrun
        exact retR_i hx hb hr hlocks rfl dX1_both_58
      have hrun := mif_n c_3 hrun
      refine lv_aload_n hx hb dX1_both_9 rfl (lv_at hl 0 rfl) ?_
      refine va_get (ci := 1) (v := .ref (aw 0)) (C := RX1) (T := TX1) (N := 10) hx hb hts in_X1 hown hK hP 0 rfl rfl 0 (by decide) (hts _ q370) (fun _ h9 => h9) rfl dX1_both_10 ?_
      refine lv_iconst (v := (0 : Int32)) hx hb dX1_both_13 (by decide) ?_
      refine lv_aload_n hx hb dX1_both_14 rfl (lv_at hl 0 rfl) ?_
      refine va_get (ci := 1) (v := .ref (aw 0)) (C := RX1) (T := TX1) (N := 10) hx hb hts in_X1 hown hK hP 0 rfl rfl 0 (by decide) (hts _ q370) (fun _ h9 => h9) rfl dX1_both_15 ?_
      refine va_getN (ci := 2) (v := .int (wd_day sw)) (C := RX2) (T := TX2) (N := 21) hx hb hts in_X2 hown hK hP 1 rfl rfl 2 (by decide) (va_Nw.use rfl (hN _ (zN_of q168 rfl))) (fun _ h9 => h9) rfl dX1_both_18 ?_
      refine lv_iload_n hx hb dX1_both_21 rfl (lv_at hl 1 rfl) ?_
      refine lv_iadd hx hb dX1_both_22 ?_
      obtain ⟨r_5, hc_4, hrun⟩ := mob_s rfl hrun
      refine cRV (As := [.int (0 : Int32), .int ((wd_day sw) + x1_2)]) (ci := 2) ⟨hx, hb, hml, hown, hts⟩ hOK hz va_S.rf (hP.sub (ws' := (cW k aw sw)) [1, 2, 3, 4, 5, 6, 7, 8, 9] rfl) (mtX2_isSaturday l D k aw Z hOK _ _ _ _ hc_4) (kX2_isSaturday hts q426 rfl rfl ⟨Nat.le_of_ble_eq_true rfl, Nat.le_of_ble_eq_true rfl⟩) 0 rfl rfl rfl hl.1 rfl (lv_room (Nat.le_of_ble_eq_true rfl)) ⟨Nat.le_of_ble_eq_true rfl, Nat.le_of_ble_eq_true rfl⟩ dX1_both_23 ?_
      refine lv_if_eq (tgt := 51) hx hb dX1_both_26 (by decide) (fun c_6 => ?_) (fun c_6 => ?_)
      · have hrun := mif_n (bz_z c_6) hrun
        refine lv_iinc (v := (x1_2 + (1 : Int32))) (lv' := [(1, .int (x1_2 + (1 : Int32))), (0, .ref (ah 0))]) hx hb dX1_both_51 hl (k := 1) rfl rfl (by decide) rfl (fun ls hl => ?_)
        refine lv_goto (tgt := 2) hx hb dX1_both_54 (by decide) ?_
        exact ih (x1_2 + (1 : Int32)) ls (lv_sub hl [1, 0] rfl) hrun
      have hrun := mif_p (bz_nz c_6) hrun
      refine lv_aload_n hx hb dX1_both_29 rfl (lv_at hl 0 rfl) ?_
      refine va_get (ci := 1) (v := .ref (aw 0)) (C := RX1) (T := TX1) (N := 10) hx hb hts in_X1 hown hK hP 0 rfl rfl 0 (by decide) (hts _ q370) (fun _ h9 => h9) rfl dX1_both_30 ?_
      refine lv_iconst (v := (1 : Int32)) hx hb dX1_both_33 (by decide) ?_
      refine lv_aload_n hx hb dX1_both_34 rfl (lv_at hl 0 rfl) ?_
      refine va_get (ci := 1) (v := .ref (aw 0)) (C := RX1) (T := TX1) (N := 10) hx hb hts in_X1 hown hK hP 0 rfl rfl 0 (by decide) (hts _ q370) (fun _ h9 => h9) rfl dX1_both_35 ?_
      refine va_getN (ci := 2) (v := .int (wd_day sw)) (C := RX2) (T := TX2) (N := 21) hx hb hts in_X2 hown hK hP 1 rfl rfl 2 (by decide) (va_Nw.use rfl (hN _ (zN_of q168 rfl))) (fun _ h9 => h9) rfl dX1_both_38 ?_
      refine lv_iload_n hx hb dX1_both_41 rfl (lv_at hl 1 rfl) ?_
      refine lv_iadd hx hb dX1_both_42 ?_
      obtain ⟨r_8, hc_7, hrun⟩ := mob_s rfl hrun
      refine cRV (As := [.int (1 : Int32), .int ((wd_day sw) + x1_2)]) (ci := 2) ⟨hx, hb, hml, hown, hts⟩ hOK hz va_S.rf (hP.sub (ws' := (cW k aw sw)) [1, 2, 3, 4, 5, 6, 7, 8, 9] rfl) (mtX2_isSaturday l D k aw Z hOK _ _ _ _ hc_7) (kX2_isSaturday hts q426 rfl rfl ⟨Nat.le_of_ble_eq_true rfl, Nat.le_of_ble_eq_true rfl⟩) 0 rfl rfl rfl hl.1 rfl (lv_room (Nat.le_of_ble_eq_true rfl)) ⟨Nat.le_of_ble_eq_true rfl, Nat.le_of_ble_eq_true rfl⟩ dX1_both_43 ?_
      refine lv_if_eq (tgt := 51) hx hb dX1_both_46 (by decide) (fun c_9 => ?_) (fun c_9 => ?_)
      · have hrun := mif_n (bz_z c_9) hrun
        refine lv_iinc (v := (x1_2 + (1 : Int32))) (lv' := [(1, .int (x1_2 + (1 : Int32))), (0, .ref (ah 0))]) hx hb dX1_both_51 hl (k := 1) rfl rfl (by decide) rfl (fun ls hl => ?_)
        refine lv_goto (tgt := 2) hx hb dX1_both_54 (by decide) ?_
        exact ih (x1_2 + (1 : Int32)) ls (lv_sub hl [1, 0] rfl) hrun
      have hrun := mif_p (bz_nz c_9) hrun
      refine lv_iload_n hx hb dX1_both_49 rfl (lv_at hl 1 rfl) ?_
      cases hrun
      exact retR_i hx hb hr hlocks rfl dX1_both_50
  exact hL_1 mFU (0 : Int32) ls (lv_sub hl [1, 0] rfl) hrun
def rX1_oddsOf : Room := { frames := 1, cells := 0, slots := 0, locals := 21 }
noncomputable def fX1_oddsOf_L8 (sw : Wd) (K_4 : Int64 → Int64 → Option (Int32)) (p1 : Int32) : Nat → Int64 → Int64 → Int32 → Option (Int32)
  | 0, _, _, _ => none
  | n + 1, x2_7, x4_8, x6_9 =>
    if (wd_guests sw) ≤ x6_9 then
      K_4 x2_7 x4_8
    else
      mob (fX1_has p1 x6_9) fun r_12 =>
      if r_12 = true then
        mob (fX2_risk sw x6_9) fun r_15 =>
        fX1_oddsOf_L8 sw K_4 p1 n (x2_7 * (((10 : Int32) - r_15)).toInt64) (x4_8 * (10 : Int64)) (x6_9 + (1 : Int32))
      else
        fX1_oddsOf_L8 sw K_4 p1 n x2_7 x4_8 (x6_9 + (1 : Int32))
noncomputable def fX1_oddsOf (sh : Kp) (sw : Wd) (p1 : Int32) : Option (Int32) :=
  mjn (fun (x2_2 : Int64) (x4_3 : Int64) =>
  mnl x4_3 <|
  some (((((10000 : Int64) * (x4_3 - x2_2)) / x4_3)).toInt32)) fun K_4 =>
  fX1_oddsOf_L8 sw K_4 p1 mFU (1 : Int64) (1 : Int64) (0 : Int32)
theorem kX1_oddsOf {R : Room} {s : State} {args : Array Value} {own : String} {idx mc ms : Nat} {rm : Room} (hts : ∀ w ∈ lw_all, w.before args s = true) (hl : Cond.methodLink own idx yX1_oddsOf ∈ lw_all) (hrc : rm.cells = mc) (hrs : rm.slots = ms) (hR : rm.frames + 1 ≤ R.frames ∧ 8 + (7 + 11) + rm.locals ≤ R.locals) : CallW R s args own RX1 idx yX1_oddsOf cX1_oddsOf 7 (some .int) (ws_ yX1_oddsOf cX1_oddsOf 7 (some .int)) rm mc ms 1 :=
  cwV 1 hts (lw_V hl q584 qs3 q107 q585) rfl hrc hrs (by decide +kernel) hR
set_option maxHeartbeats 4000000 in
set_option maxRecDepth 100000 in
theorem mtX1_oddsOf (l : Launch) (D : va_G) (k : Nat → ClassId) (ah : Nat → Nat) (aw : Nat → Nat) (adr : Nat → Nat) (aim : Nat → Nat) (ard : Nat → Nat) (asc : Nat → Nat) (ath : Nat → Nat) (awl : Nat → Nat) (alo : Nat → Nat) (atr : Nat → Nat) (Z : zZ) (hOK : zOK D zCl (zTys k) Z) (sh : Kp) (sw : Wd) (p1 : Int32) (r : Int32) (hrun : fX1_oddsOf sh sw p1 = some r) :
    CtR l yX1_oddsOf cX1_oddsOf 7 (some .int) rX1_oddsOf Z D zCl ((cH k ah aw adr aim ard asc ath awl alo atr sh) ++ (cW k aw sw)) [.ref (ah 0), .int p1] (some (.int r)) := by
  refine CtR.of (by decide) (Nat.le_of_ble_eq_true rfl) ?_
  intro p e s m args below meth c hE hP hz ls hl
  obtain ⟨hx, hb, hr, hml, hown, hts, hlocks, hname⟩ := hE
  have hown : s.vm.findClass RX1 = some m.cls := hown
  have hK := hOK.1 _ _ _ hz
  have hN := hOK.2.1 _ _ _ hz
  have hl : lv_has ls 7 [(0, .ref (ah 0)), (1, .int p1)] := hl
  unfold fX1_oddsOf at hrun
  refine lv_lconst (v := (1 : Int64)) hx hb dX1_oddsOf_0 (by decide) ?_
  refine lv_lstore_n (lv' := [(2, .long (1 : Int64)), (0, .ref (ah 0)), (1, .int p1)]) hx hb dX1_oddsOf_1 rfl hl (by decide) rfl (fun ls hl => ?_)
  refine lv_lconst (v := (1 : Int64)) hx hb dX1_oddsOf_2 (by decide) ?_
  refine lv_lstore (lv' := [(4, .long (1 : Int64)), (2, .long (1 : Int64)), (0, .ref (ah 0)), (1, .int p1)]) hx hb dX1_oddsOf_3 hl (by decide) rfl (fun ls hl => ?_)
  refine lv_iconst (v := (0 : Int32)) hx hb dX1_oddsOf_5 (by decide) ?_
  refine lv_istore (lv' := [(6, .int (0 : Int32)), (4, .long (1 : Int64)), (2, .long (1 : Int64)), (0, .ref (ah 0)), (1, .int p1)]) hx hb dX1_oddsOf_6 hl (by decide) rfl (fun ls hl => ?_)
  obtain ⟨K_4, hK_4, hrun⟩ := mjn_s hrun
  have hj_1 : ∀ (x2_2 : Int64) (x4_3 : Int64), ∀ ls : Array Slot, lv_has ls 7 [(2, .long x2_2), (4, .long x4_3)] → K_4 x2_2 x4_3 = some r → W p l e rX1_oddsOf s m args below meth c s.heap [] 0 0 (MQ below (QRr (some (.int r))) args s 0 0 (fun _ => False)) (F0 m 62 ls []) := by
    intro x2_2 x4_3 ls hl hrun
    rw [hK_4] at hrun
    refine lv_ldc2 (v := (10000 : Int64)) hx hb hown (hts _ q592) dX1_oddsOf_62 ?_
    refine lv_lload hx hb dX1_oddsOf_65 (lv_at hl 1 rfl) ?_
    refine lv_lload_n hx hb dX1_oddsOf_67 rfl (lv_at hl 0 rfl) ?_
    refine lv_lsub hx hb dX1_oddsOf_68 ?_
    refine lv_lmul hx hb dX1_oddsOf_69 ?_
    refine lv_lload hx hb dX1_oddsOf_70 (lv_at hl 1 rfl) ?_
    obtain ⟨hn_5, hrun⟩ := mnl_s rfl hrun
    refine lv_ldiv hx hb dX1_oddsOf_72 hn_5 ?_
    refine lv_l2i (v := ((((10000 : Int64) * (x4_3 - x2_2)) / x4_3)).toInt32) hx hb dX1_oddsOf_73 rfl ?_
    cases hrun
    exact retR_i hx hb hr hlocks rfl dX1_oddsOf_74
  have hL_6 : ∀ n : Nat, ∀ (x2_7 : Int64) (x4_8 : Int64) (x6_9 : Int32), ∀ ls : Array Slot, lv_has ls 7 [(0, .ref (ah 0)), (1, .int p1), (2, .long x2_7), (4, .long x4_8), (6, .int x6_9)] → fX1_oddsOf_L8 sw K_4 p1 n x2_7 x4_8 x6_9 = some r → W p l e rX1_oddsOf s m args below meth c s.heap [] 0 0 (MQ below (QRr (some (.int r))) args s 0 0 (fun _ => False)) (F0 m 8 ls []) := by
    intro n
    induction n with
    | zero =>
      intro x2_7 x4_8 x6_9 ls hl hrun
      exact nomatch hrun
    | succ n ih =>
      intro x2_7 x4_8 x6_9 ls hl hrun
      rw [fX1_oddsOf_L8.eq_2] at hrun
      refine lv_iload hx hb dX1_oddsOf_8 (lv_at hl 4 rfl) ?_
      refine lv_aload_n hx hb dX1_oddsOf_10 rfl (lv_at hl 0 rfl) ?_
      refine va_get (ci := 1) (v := .ref (aw 0)) (C := RX1) (T := TX1) (N := 10) hx hb hts in_X1 hown hK hP 0 rfl rfl 0 (by decide) (hts _ q370) (fun _ h9 => h9) rfl dX1_oddsOf_11 ?_
      refine va_getN (ci := 2) (v := .int (wd_guests sw)) (C := RX2) (T := TX2) (N := 21) hx hb hts in_X2 hown hK hP 1 rfl rfl 1 (by decide) (va_Nw.use rfl (hN _ (zN_of q166 rfl))) (fun _ h9 => h9) rfl dX1_oddsOf_14 ?_
      refine lv_icmp_ge (tgt := 62) hx hb dX1_oddsOf_17 (by decide) (fun c_10 => ?_) (fun c_10 => ?_)
      · have hrun := mif_p c_10 hrun
        exact hj_1 x2_7 x4_8 ls (lv_sub hl [2, 3] rfl) hrun
      have hrun := mif_n c_10 hrun
      refine lv_iload_n hx hb dX1_oddsOf_20 rfl (lv_at hl 1 rfl) ?_
      refine lv_iload hx hb dX1_oddsOf_21 (lv_at hl 4 rfl) ?_
      obtain ⟨r_12, hc_11, hrun⟩ := mob_s rfl hrun
      refine cRS (ws := []) (As := [.int p1, .int x6_9]) ⟨hx, hb, hml, hown, hts⟩ hOK hz va_S.rf zP0 (mtX1_has l D Z hOK _ _ _ hc_11) (kX1_has hts q586 rfl rfl ⟨Nat.le_of_ble_eq_true rfl, Nat.le_of_ble_eq_true rfl⟩) rfl hl.1 rfl (lv_room (Nat.le_of_ble_eq_true rfl)) ⟨Nat.le_of_ble_eq_true rfl, Nat.le_of_ble_eq_true rfl⟩ dX1_oddsOf_23 ?_
      refine lv_if_ne (tgt := 32) hx hb dX1_oddsOf_26 (by decide) (fun c_13 => ?_) (fun c_13 => ?_)
      · have hrun := mif_p (bz_nz c_13) hrun
        refine lv_lload_n hx hb dX1_oddsOf_32 rfl (lv_at hl 2 rfl) ?_
        refine lv_bipush (v := (10 : Int32)) hx hb dX1_oddsOf_33 (by decide) ?_
        refine lv_aload_n hx hb dX1_oddsOf_35 rfl (lv_at hl 0 rfl) ?_
        refine va_get (ci := 1) (v := .ref (aw 0)) (C := RX1) (T := TX1) (N := 10) hx hb hts in_X1 hown hK hP 0 rfl rfl 0 (by decide) (hts _ q370) (fun _ h9 => h9) rfl dX1_oddsOf_36 ?_
        refine lv_iload hx hb dX1_oddsOf_39 (lv_at hl 4 rfl) ?_
        obtain ⟨r_15, hc_14, hrun⟩ := mob_s rfl hrun
        refine cRV (As := [.int x6_9]) (ci := 2) ⟨hx, hb, hml, hown, hts⟩ hOK hz va_S.rf (hP.sub (ws' := (cW k aw sw)) [1, 2, 3, 4, 5, 6, 7, 8, 9] rfl) (mtX2_risk l D k aw Z hOK _ _ _ hc_14) (kX2_risk hts q587 rfl rfl ⟨Nat.le_of_ble_eq_true rfl, Nat.le_of_ble_eq_true rfl⟩) 0 rfl rfl rfl hl.1 rfl (lv_room (Nat.le_of_ble_eq_true rfl)) ⟨Nat.le_of_ble_eq_true rfl, Nat.le_of_ble_eq_true rfl⟩ dX1_oddsOf_41 ?_
        refine lv_isub hx hb dX1_oddsOf_44 ?_
        refine lv_i2l (v := (((10 : Int32) - r_15)).toInt64) hx hb dX1_oddsOf_45 rfl ?_
        refine lv_lmul hx hb dX1_oddsOf_46 ?_
        refine lv_lstore_n (lv' := [(2, .long (x2_7 * (((10 : Int32) - r_15)).toInt64)), (0, .ref (ah 0)), (1, .int p1), (4, .long x4_8), (6, .int x6_9)]) hx hb dX1_oddsOf_47 rfl hl (by decide) rfl (fun ls hl => ?_)
        refine lv_lload hx hb dX1_oddsOf_48 (lv_at hl 3 rfl) ?_
        refine lv_ldc2 (v := (10 : Int64)) hx hb hown (hts _ q591) dX1_oddsOf_50 ?_
        refine lv_lmul hx hb dX1_oddsOf_53 ?_
        refine lv_lstore (lv' := [(4, .long (x4_8 * (10 : Int64))), (2, .long (x2_7 * (((10 : Int32) - r_15)).toInt64)), (0, .ref (ah 0)), (1, .int p1), (6, .int x6_9)]) hx hb dX1_oddsOf_54 hl (by decide) rfl (fun ls hl => ?_)
        refine lv_iinc (v := (x6_9 + (1 : Int32))) (lv' := [(6, .int (x6_9 + (1 : Int32))), (4, .long (x4_8 * (10 : Int64))), (2, .long (x2_7 * (((10 : Int32) - r_15)).toInt64)), (0, .ref (ah 0)), (1, .int p1)]) hx hb dX1_oddsOf_56 hl (k := 4) rfl rfl (by decide) rfl (fun ls hl => ?_)
        refine lv_goto (tgt := 8) hx hb dX1_oddsOf_59 (by decide) ?_
        exact ih (x2_7 * (((10 : Int32) - r_15)).toInt64) (x4_8 * (10 : Int64)) (x6_9 + (1 : Int32)) ls (lv_sub hl [3, 4, 2, 1, 0] rfl) hrun
      have hrun := mif_n (bz_z c_13) hrun
      refine lv_goto (tgt := 56) hx hb dX1_oddsOf_29 (by decide) ?_
      refine lv_iinc (v := (x6_9 + (1 : Int32))) (lv' := [(6, .int (x6_9 + (1 : Int32))), (0, .ref (ah 0)), (1, .int p1), (2, .long x2_7), (4, .long x4_8)]) hx hb dX1_oddsOf_56 hl (k := 4) rfl rfl (by decide) rfl (fun ls hl => ?_)
      refine lv_goto (tgt := 8) hx hb dX1_oddsOf_59 (by decide) ?_
      exact ih x2_7 x4_8 (x6_9 + (1 : Int32)) ls (lv_sub hl [1, 2, 3, 4, 0] rfl) hrun
  exact hL_6 mFU (1 : Int64) (1 : Int64) (0 : Int32) ls (lv_sub hl [3, 4, 2, 1, 0] rfl) hrun
def rX1_mend : Room := { frames := 1, cells := 0, slots := 0, locals := 23 }
noncomputable def fX1_mend_L4 (sw : Wd) : Nat → Int32 → Int32 → Option (Int32)
  | 0, _, _ => none
  | n + 1, x1_2, x2_3 =>
    if (8 : Int32) ≤ x2_3 then
      some x1_2
    else
      mob (fX2_inside sw x2_3) fun r_6 =>
      if r_6 = (0 : Int32) then
        fX1_mend_L4 sw n (x1_2 + (0 : Int32)) (x2_3 + (1 : Int32))
      else
        mck x2_3 8 <|
        mob (fX1_has ((wd_holes sw) (Int32.toNatClampNeg x2_3)) (wd_bath sw)) fun r_10 =>
        if r_10 = true then
          fX1_mend_L4 sw n (x1_2 + (1 : Int32)) (x2_3 + (1 : Int32))
        else
          fX1_mend_L4 sw n (x1_2 + (0 : Int32)) (x2_3 + (1 : Int32))
noncomputable def fX1_mend (sh : Kp) (sw : Wd) : Option (Int32) :=
  fX1_mend_L4 sw mFU (0 : Int32) (0 : Int32)
theorem kX1_mend {R : Room} {s : State} {args : Array Value} {own : String} {idx mc ms : Nat} {rm : Room} (hts : ∀ w ∈ lw_all, w.before args s = true) (hl : Cond.methodLink own idx yX1_mend ∈ lw_all) (hrc : rm.cells = mc) (hrs : rm.slots = ms) (hR : rm.frames + 1 ≤ R.frames ∧ 8 + (3 + 11) + rm.locals ≤ R.locals) : CallW R s args own RX1 idx yX1_mend cX1_mend 3 (some .int) (ws_ yX1_mend cX1_mend 3 (some .int)) rm mc ms 0 :=
  cwV 0 hts (lw_V hl q598 q599 q107 q600) rfl hrc hrs (by decide +kernel) hR
set_option maxHeartbeats 4000000 in
set_option maxRecDepth 100000 in
theorem mtX1_mend (l : Launch) (D : va_G) (k : Nat → ClassId) (ah : Nat → Nat) (aw : Nat → Nat) (adr : Nat → Nat) (aim : Nat → Nat) (ard : Nat → Nat) (asc : Nat → Nat) (ath : Nat → Nat) (awl : Nat → Nat) (alo : Nat → Nat) (atr : Nat → Nat) (Z : zZ) (hOK : zOK D zCl (zTys k) Z) (sh : Kp) (sw : Wd) (r : Int32) (hrun : fX1_mend sh sw = some r) :
    CtR l yX1_mend cX1_mend 3 (some .int) rX1_mend Z D zCl ((cH k ah aw adr aim ard asc ath awl alo atr sh) ++ (cW k aw sw)) [.ref (ah 0)] (some (.int r)) := by
  refine CtR.of (by decide) (Nat.le_of_ble_eq_true rfl) ?_
  intro p e s m args below meth c hE hP hz ls hl
  obtain ⟨hx, hb, hr, hml, hown, hts, hlocks, hname⟩ := hE
  have hown : s.vm.findClass RX1 = some m.cls := hown
  have hK := hOK.1 _ _ _ hz
  have hN := hOK.2.1 _ _ _ hz
  have hl : lv_has ls 3 [(0, .ref (ah 0))] := hl
  unfold fX1_mend at hrun
  refine lv_iconst (v := (0 : Int32)) hx hb dX1_mend_0 (by decide) ?_
  refine lv_istore_n (lv' := [(1, .int (0 : Int32)), (0, .ref (ah 0))]) hx hb dX1_mend_1 rfl hl (by decide) rfl (fun ls hl => ?_)
  refine lv_iconst (v := (0 : Int32)) hx hb dX1_mend_2 (by decide) ?_
  refine lv_istore_n (lv' := [(2, .int (0 : Int32)), (1, .int (0 : Int32)), (0, .ref (ah 0))]) hx hb dX1_mend_3 rfl hl (by decide) rfl (fun ls hl => ?_)
  have hL_1 : ∀ n : Nat, ∀ (x1_2 : Int32) (x2_3 : Int32), ∀ ls : Array Slot, lv_has ls 3 [(0, .ref (ah 0)), (1, .int x1_2), (2, .int x2_3)] → fX1_mend_L4 sw n x1_2 x2_3 = some r → W p l e rX1_mend s m args below meth c s.heap [] 0 0 (MQ below (QRr (some (.int r))) args s 0 0 (fun _ => False)) (F0 m 4 ls []) := by
    intro n
    induction n with
    | zero =>
      intro x1_2 x2_3 ls hl hrun
      exact nomatch hrun
    | succ n ih =>
      intro x1_2 x2_3 ls hl hrun
      rw [fX1_mend_L4.eq_2] at hrun
      refine lv_iload_n hx hb dX1_mend_4 rfl (lv_at hl 2 rfl) ?_
      refine lv_bipush (v := (8 : Int32)) hx hb dX1_mend_5 (by decide) ?_
      refine lv_icmp_ge (tgt := 57) hx hb dX1_mend_7 (by decide) (fun c_4 => ?_) (fun c_4 => ?_)
      · have hrun := mif_p c_4 hrun
        refine lv_iload_n hx hb dX1_mend_57 rfl (lv_at hl 1 rfl) ?_
        cases hrun
        exact retR_i hx hb hr hlocks rfl dX1_mend_58
      have hrun := mif_n c_4 hrun
      refine lv_iload_n hx hb dX1_mend_10 rfl (lv_at hl 1 rfl) ?_
      refine lv_aload_n hx hb dX1_mend_11 rfl (lv_at hl 0 rfl) ?_
      refine va_get (ci := 1) (v := .ref (aw 0)) (C := RX1) (T := TX1) (N := 10) hx hb hts in_X1 hown hK hP 0 rfl rfl 0 (by decide) (hts _ q370) (fun _ h9 => h9) rfl dX1_mend_12 ?_
      refine lv_iload_n hx hb dX1_mend_15 rfl (lv_at hl 2 rfl) ?_
      obtain ⟨r_6, hc_5, hrun⟩ := mob_s rfl hrun
      refine cRV (As := [.int x2_3]) (ci := 2) ⟨hx, hb, hml, hown, hts⟩ hOK hz va_S.rf (hP.sub (ws' := (cW k aw sw)) [1, 2, 3, 4, 5, 6, 7, 8, 9] rfl) (mtX2_inside l D k aw Z hOK _ _ _ hc_5) (kX2_inside hts q601 rfl rfl ⟨Nat.le_of_ble_eq_true rfl, Nat.le_of_ble_eq_true rfl⟩) 0 rfl rfl rfl hl.1 rfl (lv_room (Nat.le_of_ble_eq_true rfl)) ⟨Nat.le_of_ble_eq_true rfl, Nat.le_of_ble_eq_true rfl⟩ dX1_mend_16 ?_
      refine lv_if_eq (tgt := 48) hx hb dX1_mend_19 (by decide) (fun c_7 => ?_) (fun c_7 => ?_)
      · have hrun := mif_p c_7 hrun
        refine lv_iconst (v := (0 : Int32)) hx hb dX1_mend_48 (by decide) ?_
        refine lv_iadd hx hb dX1_mend_49 ?_
        refine lv_istore_n (lv' := [(1, .int (x1_2 + (0 : Int32))), (0, .ref (ah 0)), (2, .int x2_3)]) hx hb dX1_mend_50 rfl hl (by decide) rfl (fun ls hl => ?_)
        refine lv_iinc (v := (x2_3 + (1 : Int32))) (lv' := [(2, .int (x2_3 + (1 : Int32))), (1, .int (x1_2 + (0 : Int32))), (0, .ref (ah 0))]) hx hb dX1_mend_51 hl (k := 2) rfl rfl (by decide) rfl (fun ls hl => ?_)
        refine lv_goto (tgt := 4) hx hb dX1_mend_54 (by decide) ?_
        exact ih (x1_2 + (0 : Int32)) (x2_3 + (1 : Int32)) ls (lv_sub hl [2, 1, 0] rfl) hrun
      have hrun := mif_n c_7 hrun
      refine lv_aload_n hx hb dX1_mend_22 rfl (lv_at hl 0 rfl) ?_
      refine va_get (ci := 1) (v := .ref (aw 0)) (C := RX1) (T := TX1) (N := 10) hx hb hts in_X1 hown hK hP 0 rfl rfl 0 (by decide) (hts _ q370) (fun _ h9 => h9) rfl dX1_mend_23 ?_
      refine va_getN (ci := 2) (v := .ref (aw 7)) (C := RX2) (T := TX2) (N := 21) hx hb hts in_X2 hown hK hP 1 rfl rfl 18 (by decide) (va_Nw.use rfl (hN _ (zN_of q204 rfl))) (fun _ h9 => h9) rfl dX1_mend_26 ?_
      refine lv_iload_n hx hb dX1_mend_29 rfl (lv_at hl 2 rfl) ?_
      obtain ⟨hb_8, hrun⟩ := mck_s rfl hrun
      refine va_iald hx hb hK hP 8 0 rfl rfl hb_8 dX1_mend_30 ?_
      refine lv_aload_n hx hb dX1_mend_31 rfl (lv_at hl 0 rfl) ?_
      refine va_get (ci := 1) (v := .ref (aw 0)) (C := RX1) (T := TX1) (N := 10) hx hb hts in_X1 hown hK hP 0 rfl rfl 0 (by decide) (hts _ q370) (fun _ h9 => h9) rfl dX1_mend_32 ?_
      refine va_getN (ci := 2) (v := .int (wd_bath sw)) (C := RX2) (T := TX2) (N := 21) hx hb hts in_X2 hown hK hP 1 rfl rfl 3 (by decide) (va_Nw.use rfl (hN _ (zN_of q171 rfl))) (fun _ h9 => h9) rfl dX1_mend_35 ?_
      obtain ⟨r_10, hc_9, hrun⟩ := mob_s rfl hrun
      refine cRS (ws := []) (As := [.int ((wd_holes sw) (Int32.toNatClampNeg x2_3)), .int (wd_bath sw)]) ⟨hx, hb, hml, hown, hts⟩ hOK hz va_S.rf zP0 (mtX1_has l D Z hOK _ _ _ hc_9) (kX1_has hts q586 rfl rfl ⟨Nat.le_of_ble_eq_true rfl, Nat.le_of_ble_eq_true rfl⟩) rfl hl.1 rfl (lv_room (Nat.le_of_ble_eq_true rfl)) ⟨Nat.le_of_ble_eq_true rfl, Nat.le_of_ble_eq_true rfl⟩ dX1_mend_38 ?_
      refine lv_if_eq (tgt := 48) hx hb dX1_mend_41 (by decide) (fun c_11 => ?_) (fun c_11 => ?_)
      · have hrun := mif_n (bz_z c_11) hrun
        refine lv_iconst (v := (0 : Int32)) hx hb dX1_mend_48 (by decide) ?_
        refine lv_iadd hx hb dX1_mend_49 ?_
        refine lv_istore_n (lv' := [(1, .int (x1_2 + (0 : Int32))), (0, .ref (ah 0)), (2, .int x2_3)]) hx hb dX1_mend_50 rfl hl (by decide) rfl (fun ls hl => ?_)
        refine lv_iinc (v := (x2_3 + (1 : Int32))) (lv' := [(2, .int (x2_3 + (1 : Int32))), (1, .int (x1_2 + (0 : Int32))), (0, .ref (ah 0))]) hx hb dX1_mend_51 hl (k := 2) rfl rfl (by decide) rfl (fun ls hl => ?_)
        refine lv_goto (tgt := 4) hx hb dX1_mend_54 (by decide) ?_
        exact ih (x1_2 + (0 : Int32)) (x2_3 + (1 : Int32)) ls (lv_sub hl [2, 1, 0] rfl) hrun
      have hrun := mif_p (bz_nz c_11) hrun
      refine lv_iconst (v := (1 : Int32)) hx hb dX1_mend_44 (by decide) ?_
      refine lv_goto (tgt := 49) hx hb dX1_mend_45 (by decide) ?_
      refine lv_iadd hx hb dX1_mend_49 ?_
      refine lv_istore_n (lv' := [(1, .int (x1_2 + (1 : Int32))), (0, .ref (ah 0)), (2, .int x2_3)]) hx hb dX1_mend_50 rfl hl (by decide) rfl (fun ls hl => ?_)
      refine lv_iinc (v := (x2_3 + (1 : Int32))) (lv' := [(2, .int (x2_3 + (1 : Int32))), (1, .int (x1_2 + (1 : Int32))), (0, .ref (ah 0))]) hx hb dX1_mend_51 hl (k := 2) rfl rfl (by decide) rfl (fun ls hl => ?_)
      refine lv_goto (tgt := 4) hx hb dX1_mend_54 (by decide) ?_
      exact ih (x1_2 + (1 : Int32)) (x2_3 + (1 : Int32)) ls (lv_sub hl [2, 1, 0] rfl) hrun
  exact hL_1 mFU (0 : Int32) (0 : Int32) ls (lv_sub hl [2, 1, 0] rfl) hrun
def rX1_areShut : Room := { frames := 1, cells := 0, slots := 0, locals := 21 }
noncomputable def fX1_areShut_L2 (p1 : Int32) (sw : Wd) : Nat → Int32 → Option (Bool)
  | 0, _ => none
  | n + 1, x2_2 =>
    if (8 : Int32) ≤ x2_2 then
      some true
    else
      mob (fX1_has p1 x2_2) fun r_5 =>
      if r_5 = true then
        fX1_areShut_L2 p1 sw n (x2_2 + (1 : Int32))
      else
        mck x2_2 8 <|
        if (((wd_holes sw) (Int32.toNatClampNeg x2_2)) &&& (p1 ^^^ (-1 : Int32))) = (0 : Int32) then
          fX1_areShut_L2 p1 sw n (x2_2 + (1 : Int32))
        else
          some false
noncomputable def fX1_areShut (sh : Kp) (sw : Wd) (p1 : Int32) : Option (Bool) :=
  fX1_areShut_L2 p1 sw mFU (0 : Int32)
theorem kX1_areShut {R : Room} {s : State} {args : Array Value} {own : String} {idx mc ms : Nat} {rm : Room} (hts : ∀ w ∈ lw_all, w.before args s = true) (hl : Cond.methodLink own idx yX1_areShut ∈ lw_all) (hrc : rm.cells = mc) (hrs : rm.slots = ms) (hR : rm.frames + 1 ≤ R.frames ∧ 8 + (3 + 11) + rm.locals ≤ R.locals) : CallW R s args own RX1 idx yX1_areShut cX1_areShut 3 (some .boolean) (ws_ yX1_areShut cX1_areShut 3 (some .boolean)) rm mc ms 1 :=
  cwV 1 hts (lw_V hl q611 qs4 q107 q612) rfl hrc hrs (by decide +kernel) hR
set_option maxHeartbeats 4000000 in
set_option maxRecDepth 100000 in
theorem mtX1_areShut (l : Launch) (D : va_G) (k : Nat → ClassId) (ah : Nat → Nat) (aw : Nat → Nat) (adr : Nat → Nat) (aim : Nat → Nat) (ard : Nat → Nat) (asc : Nat → Nat) (ath : Nat → Nat) (awl : Nat → Nat) (alo : Nat → Nat) (atr : Nat → Nat) (Z : zZ) (hOK : zOK D zCl (zTys k) Z) (sh : Kp) (sw : Wd) (p1 : Int32) (r : Bool) (hrun : fX1_areShut sh sw p1 = some r) :
    CtR l yX1_areShut cX1_areShut 3 (some .boolean) rX1_areShut Z D zCl ((cH k ah aw adr aim ard asc ath awl alo atr sh) ++ (cW k aw sw)) [.ref (ah 0), .int p1] (some (.int (bz r))) := by
  refine CtR.of (by decide) (Nat.le_of_ble_eq_true rfl) ?_
  intro p e s m args below meth c hE hP hz ls hl
  obtain ⟨hx, hb, hr, hml, hown, hts, hlocks, hname⟩ := hE
  have hown : s.vm.findClass RX1 = some m.cls := hown
  have hK := hOK.1 _ _ _ hz
  have hN := hOK.2.1 _ _ _ hz
  have hl : lv_has ls 3 [(0, .ref (ah 0)), (1, .int p1)] := hl
  unfold fX1_areShut at hrun
  refine lv_iconst (v := (0 : Int32)) hx hb dX1_areShut_0 (by decide) ?_
  refine lv_istore_n (lv' := [(2, .int (0 : Int32)), (0, .ref (ah 0)), (1, .int p1)]) hx hb dX1_areShut_1 rfl hl (by decide) rfl (fun ls hl => ?_)
  have hL_1 : ∀ n : Nat, ∀ (x2_2 : Int32), ∀ ls : Array Slot, lv_has ls 3 [(0, .ref (ah 0)), (1, .int p1), (2, .int x2_2)] → fX1_areShut_L2 p1 sw n x2_2 = some r → W p l e rX1_areShut s m args below meth c s.heap [] 0 0 (MQ below (QRr (some (.int (bz r)))) args s 0 0 (fun _ => False)) (F0 m 2 ls []) := by
    intro n
    induction n with
    | zero =>
      intro x2_2 ls hl hrun
      exact nomatch hrun
    | succ n ih =>
      intro x2_2 ls hl hrun
      rw [fX1_areShut_L2.eq_2] at hrun
      refine lv_iload_n hx hb dX1_areShut_2 rfl (lv_at hl 2 rfl) ?_
      refine lv_bipush (v := (8 : Int32)) hx hb dX1_areShut_3 (by decide) ?_
      refine lv_icmp_ge (tgt := 40) hx hb dX1_areShut_5 (by decide) (fun c_3 => ?_) (fun c_3 => ?_)
      · have hrun := mif_p c_3 hrun
        refine lv_iconst (v := (1 : Int32)) hx hb dX1_areShut_40 (by decide) ?_
        cases hrun
        exact retR_z (v := true) hx hb hr hlocks rfl dX1_areShut_41
      have hrun := mif_n c_3 hrun
      refine lv_iload_n hx hb dX1_areShut_8 rfl (lv_at hl 1 rfl) ?_
      refine lv_iload_n hx hb dX1_areShut_9 rfl (lv_at hl 2 rfl) ?_
      obtain ⟨r_5, hc_4, hrun⟩ := mob_s rfl hrun
      refine cRS (ws := []) (As := [.int p1, .int x2_2]) ⟨hx, hb, hml, hown, hts⟩ hOK hz va_S.rf zP0 (mtX1_has l D Z hOK _ _ _ hc_4) (kX1_has hts q586 rfl rfl ⟨Nat.le_of_ble_eq_true rfl, Nat.le_of_ble_eq_true rfl⟩) rfl hl.1 rfl (lv_room (Nat.le_of_ble_eq_true rfl)) ⟨Nat.le_of_ble_eq_true rfl, Nat.le_of_ble_eq_true rfl⟩ dX1_areShut_10 ?_
      refine lv_if_ne (tgt := 34) hx hb dX1_areShut_13 (by decide) (fun c_6 => ?_) (fun c_6 => ?_)
      · have hrun := mif_p (bz_nz c_6) hrun
        refine lv_iinc (v := (x2_2 + (1 : Int32))) (lv' := [(2, .int (x2_2 + (1 : Int32))), (0, .ref (ah 0)), (1, .int p1)]) hx hb dX1_areShut_34 hl (k := 2) rfl rfl (by decide) rfl (fun ls hl => ?_)
        refine lv_goto (tgt := 2) hx hb dX1_areShut_37 (by decide) ?_
        exact ih (x2_2 + (1 : Int32)) ls (lv_sub hl [1, 2, 0] rfl) hrun
      have hrun := mif_n (bz_z c_6) hrun
      refine lv_aload_n hx hb dX1_areShut_16 rfl (lv_at hl 0 rfl) ?_
      refine va_get (ci := 1) (v := .ref (aw 0)) (C := RX1) (T := TX1) (N := 10) hx hb hts in_X1 hown hK hP 0 rfl rfl 0 (by decide) (hts _ q370) (fun _ h9 => h9) rfl dX1_areShut_17 ?_
      refine va_getN (ci := 2) (v := .ref (aw 7)) (C := RX2) (T := TX2) (N := 21) hx hb hts in_X2 hown hK hP 1 rfl rfl 18 (by decide) (va_Nw.use rfl (hN _ (zN_of q204 rfl))) (fun _ h9 => h9) rfl dX1_areShut_20 ?_
      refine lv_iload_n hx hb dX1_areShut_23 rfl (lv_at hl 2 rfl) ?_
      obtain ⟨hb_7, hrun⟩ := mck_s rfl hrun
      refine va_iald hx hb hK hP 8 0 rfl rfl hb_7 dX1_areShut_24 ?_
      refine lv_iload_n hx hb dX1_areShut_25 rfl (lv_at hl 1 rfl) ?_
      refine lv_iconst (v := (-1 : Int32)) hx hb dX1_areShut_26 (by decide) ?_
      refine lv_ixor hx hb dX1_areShut_27 ?_
      refine lv_iand hx hb dX1_areShut_28 ?_
      refine lv_if_eq (tgt := 34) hx hb dX1_areShut_29 (by decide) (fun c_8 => ?_) (fun c_8 => ?_)
      · have hrun := mif_p c_8 hrun
        refine lv_iinc (v := (x2_2 + (1 : Int32))) (lv' := [(2, .int (x2_2 + (1 : Int32))), (0, .ref (ah 0)), (1, .int p1)]) hx hb dX1_areShut_34 hl (k := 2) rfl rfl (by decide) rfl (fun ls hl => ?_)
        refine lv_goto (tgt := 2) hx hb dX1_areShut_37 (by decide) ?_
        exact ih (x2_2 + (1 : Int32)) ls (lv_sub hl [1, 2, 0] rfl) hrun
      have hrun := mif_n c_8 hrun
      refine lv_iconst (v := (0 : Int32)) hx hb dX1_areShut_32 (by decide) ?_
      cases hrun
      exact retR_z (v := false) hx hb hr hlocks rfl dX1_areShut_33
  exact hL_1 mFU (0 : Int32) ls (lv_sub hl [1, 2, 0] rfl) hrun
