/-! walks: X2_watchers, X1_odds, X1_send, X1_quiet, X1_weightOf, X1_best, X1_room -/
def rX2_watchers : Room := { frames := 2, cells := 0, slots := 0, locals := 44 }
noncomputable def fX2_watchers_L4 (su : Wd) (p1 : Int32) : Nat → Int32 → Int32 → Option (Int32)
  | 0, _, _ => none
  | n + 1, x2_2, x3_3 =>
    if (wd_guests su) ≤ x3_3 then
      some x2_2
    else
      mck x3_3 8 <|
      if ((wd_here su) (Int32.toNatClampNeg x3_3)) = true then
        mob (fX2_sees su x3_3 p1) fun r_8 =>
        if r_8 = true then
          fX2_watchers_L4 su p1 n (x2_2 ||| ((1 : Int32) <<< (x3_3 &&& (31 : Int32)))) (x3_3 + (1 : Int32))
        else
          fX2_watchers_L4 su p1 n (x2_2 ||| (0 : Int32)) (x3_3 + (1 : Int32))
      else
        fX2_watchers_L4 su p1 n (x2_2 ||| (0 : Int32)) (x3_3 + (1 : Int32))
noncomputable def fX2_watchers (su : Wd) (p1 : Int32) : Option (Int32) :=
  fX2_watchers_L4 su p1 mFU (0 : Int32) (0 : Int32)
theorem kX2_watchers {R : Room} {s : State} {args : Array Value} {own : String} {idx mc ms : Nat} {rm : Room} (hts : ∀ w ∈ lw_all, w.before args s = true) (hl : Cond.methodLink own idx yX2_watchers ∈ lw_all) (hrc : rm.cells = mc) (hrs : rm.slots = ms) (hR : rm.frames + 1 ≤ R.frames ∧ 8 + (4 + 11) + rm.locals ≤ R.locals) : CallW R s args own RX2 idx yX2_watchers cX2_watchers 4 (some .int) (ws_ yX2_watchers cX2_watchers 4 (some .int)) rm mc ms 1 :=
  cwV 1 hts (lw_V hl q568 q569 q108 q570) rfl hrc hrs (by decide +kernel) hR
set_option maxHeartbeats 4000000 in
set_option maxRecDepth 100000 in
theorem mtX2_watchers (l : Launch) (D : va_G) (k : Nat → ClassId) (au : Nat → Nat) (Z : zZ) (hOK : zOK D zCl (zTys k) Z) (su : Wd) (p1 : Int32) (r : Int32) (hrun : fX2_watchers su p1 = some r) :
    CtR l yX2_watchers cX2_watchers 4 (some .int) rX2_watchers Z D zCl (cW k au su) [.ref (au 0), .int p1] (some (.int r)) := by
  refine CtR.of (by decide) (Nat.le_of_ble_eq_true rfl) ?_
  intro p e s m args below meth c hE hP hz ls hl
  obtain ⟨hx, hb, hr, hml, hown, hts, hlocks, hname⟩ := hE
  have hown : s.vm.findClass RX2 = some m.cls := hown
  have hK := hOK.1 _ _ _ hz
  have hN := hOK.2.1 _ _ _ hz
  have hl : lv_has ls 4 [(0, .ref (au 0)), (1, .int p1)] := hl
  unfold fX2_watchers at hrun
  refine lv_iconst (v := (0 : Int32)) hx hb dX2_watchers_0 (by decide) ?_
  refine lv_istore_n (lv' := [(2, .int (0 : Int32)), (0, .ref (au 0)), (1, .int p1)]) hx hb dX2_watchers_1 rfl hl (by decide) rfl (fun ls hl => ?_)
  refine lv_iconst (v := (0 : Int32)) hx hb dX2_watchers_2 (by decide) ?_
  refine lv_istore_n (lv' := [(3, .int (0 : Int32)), (2, .int (0 : Int32)), (0, .ref (au 0)), (1, .int p1)]) hx hb dX2_watchers_3 rfl hl (by decide) rfl (fun ls hl => ?_)
  have hL_1 : ∀ n : Nat, ∀ (x2_2 : Int32) (x3_3 : Int32), ∀ ls : Array Slot, lv_has ls 4 [(0, .ref (au 0)), (1, .int p1), (2, .int x2_2), (3, .int x3_3)] → fX2_watchers_L4 su p1 n x2_2 x3_3 = some r → W p l e rX2_watchers s m args below meth c s.heap [] 0 0 (MQ below (QRr (some (.int r))) args s 0 0 (fun _ => False)) (F0 m 4 ls []) := by
    intro n
    induction n with
    | zero =>
      intro x2_2 x3_3 ls hl hrun
      exact nomatch hrun
    | succ n ih =>
      intro x2_2 x3_3 ls hl hrun
      rw [fX2_watchers_L4.eq_2] at hrun
      refine lv_iload_n hx hb dX2_watchers_4 rfl (lv_at hl 3 rfl) ?_
      refine lv_aload_n hx hb dX2_watchers_5 rfl (lv_at hl 0 rfl) ?_
      refine va_get (ci := 2) (v := .int (wd_guests su)) (C := RX2) (T := TX2) (N := 21) hx hb hts in_X2 hown hK hP 0 rfl rfl 1 (by decide) (hts _ q164) (fun _ h9 => h9) rfl dX2_watchers_6 ?_
      refine lv_icmp_ge (tgt := 46) hx hb dX2_watchers_9 (by decide) (fun c_4 => ?_) (fun c_4 => ?_)
      · have hrun := mif_p c_4 hrun
        refine lv_iload_n hx hb dX2_watchers_46 rfl (lv_at hl 2 rfl) ?_
        cases hrun
        exact retR_i hx hb hr hlocks rfl dX2_watchers_47
      have hrun := mif_n c_4 hrun
      refine lv_iload_n hx hb dX2_watchers_12 rfl (lv_at hl 2 rfl) ?_
      refine lv_aload_n hx hb dX2_watchers_13 rfl (lv_at hl 0 rfl) ?_
      refine va_get (ci := 2) (v := .ref (au 6)) (C := RX2) (T := TX2) (N := 21) hx hb hts in_X2 hown hK hP 0 rfl rfl 17 (by decide) (hts _ q200) (fun _ h9 => h9) rfl dX2_watchers_14 ?_
      refine lv_iload_n hx hb dX2_watchers_17 rfl (lv_at hl 3 rfl) ?_
      obtain ⟨hb_5, hrun⟩ := mck_s rfl hrun
      refine va_zald hx hb hK hP 6 1 rfl rfl hb_5 dX2_watchers_18 ?_
      refine lv_if_eq (tgt := 37) hx hb dX2_watchers_19 (by decide) (fun c_6 => ?_) (fun c_6 => ?_)
      · have hrun := mif_n (bz_z c_6) hrun
        refine lv_iconst (v := (0 : Int32)) hx hb dX2_watchers_37 (by decide) ?_
        refine lv_ior hx hb dX2_watchers_38 ?_
        refine lv_istore_n (lv' := [(2, .int (x2_2 ||| (0 : Int32))), (0, .ref (au 0)), (1, .int p1), (3, .int x3_3)]) hx hb dX2_watchers_39 rfl hl (by decide) rfl (fun ls hl => ?_)
        refine lv_iinc (v := (x3_3 + (1 : Int32))) (lv' := [(3, .int (x3_3 + (1 : Int32))), (2, .int (x2_2 ||| (0 : Int32))), (0, .ref (au 0)), (1, .int p1)]) hx hb dX2_watchers_40 hl (k := 3) rfl rfl (by decide) rfl (fun ls hl => ?_)
        refine lv_goto (tgt := 4) hx hb dX2_watchers_43 (by decide) ?_
        exact ih (x2_2 ||| (0 : Int32)) (x3_3 + (1 : Int32)) ls (lv_sub hl [2, 3, 1, 0] rfl) hrun
      have hrun := mif_p (bz_nz c_6) hrun
      refine lv_aload_n hx hb dX2_watchers_22 rfl (lv_at hl 0 rfl) ?_
      refine lv_iload_n hx hb dX2_watchers_23 rfl (lv_at hl 3 rfl) ?_
      refine lv_iload_n hx hb dX2_watchers_24 rfl (lv_at hl 1 rfl) ?_
      obtain ⟨r_8, hc_7, hrun⟩ := mob_s rfl hrun
      refine cRV (As := [.int x3_3, .int p1]) (ci := 2) ⟨hx, hb, hml, hown, hts⟩ hOK hz va_S.rf hP (mtX2_sees l D k au Z hOK _ _ _ _ hc_7) (kX2_sees hts q571 rfl rfl ⟨Nat.le_of_ble_eq_true rfl, Nat.le_of_ble_eq_true rfl⟩) 0 rfl rfl rfl hl.1 rfl (lv_room (Nat.le_of_ble_eq_true rfl)) ⟨Nat.le_of_ble_eq_true rfl, Nat.le_of_ble_eq_true rfl⟩ dX2_watchers_25 ?_
      refine lv_if_eq (tgt := 37) hx hb dX2_watchers_28 (by decide) (fun c_9 => ?_) (fun c_9 => ?_)
      · have hrun := mif_n (bz_z c_9) hrun
        refine lv_iconst (v := (0 : Int32)) hx hb dX2_watchers_37 (by decide) ?_
        refine lv_ior hx hb dX2_watchers_38 ?_
        refine lv_istore_n (lv' := [(2, .int (x2_2 ||| (0 : Int32))), (0, .ref (au 0)), (1, .int p1), (3, .int x3_3)]) hx hb dX2_watchers_39 rfl hl (by decide) rfl (fun ls hl => ?_)
        refine lv_iinc (v := (x3_3 + (1 : Int32))) (lv' := [(3, .int (x3_3 + (1 : Int32))), (2, .int (x2_2 ||| (0 : Int32))), (0, .ref (au 0)), (1, .int p1)]) hx hb dX2_watchers_40 hl (k := 3) rfl rfl (by decide) rfl (fun ls hl => ?_)
        refine lv_goto (tgt := 4) hx hb dX2_watchers_43 (by decide) ?_
        exact ih (x2_2 ||| (0 : Int32)) (x3_3 + (1 : Int32)) ls (lv_sub hl [2, 3, 1, 0] rfl) hrun
      have hrun := mif_p (bz_nz c_9) hrun
      refine lv_iconst (v := (1 : Int32)) hx hb dX2_watchers_31 (by decide) ?_
      refine lv_iload_n hx hb dX2_watchers_32 rfl (lv_at hl 3 rfl) ?_
      refine lv_ishl hx hb dX2_watchers_33 ?_
      refine lv_goto (tgt := 38) hx hb dX2_watchers_34 (by decide) ?_
      refine lv_ior hx hb dX2_watchers_38 ?_
      refine lv_istore_n (lv' := [(2, .int (x2_2 ||| ((1 : Int32) <<< (x3_3 &&& (31 : Int32))))), (0, .ref (au 0)), (1, .int p1), (3, .int x3_3)]) hx hb dX2_watchers_39 rfl hl (by decide) rfl (fun ls hl => ?_)
      refine lv_iinc (v := (x3_3 + (1 : Int32))) (lv' := [(3, .int (x3_3 + (1 : Int32))), (2, .int (x2_2 ||| ((1 : Int32) <<< (x3_3 &&& (31 : Int32))))), (0, .ref (au 0)), (1, .int p1)]) hx hb dX2_watchers_40 hl (k := 3) rfl rfl (by decide) rfl (fun ls hl => ?_)
      refine lv_goto (tgt := 4) hx hb dX2_watchers_43 (by decide) ?_
      exact ih (x2_2 ||| ((1 : Int32) <<< (x3_3 &&& (31 : Int32)))) (x3_3 + (1 : Int32)) ls (lv_sub hl [2, 3, 1, 0] rfl) hrun
  exact hL_1 mFU (0 : Int32) (0 : Int32) ls (lv_sub hl [2, 3, 1, 0] rfl) hrun
def rX1_odds : Room := { frames := 3, cells := 0, slots := 0, locals := 67 }
noncomputable def fX1_odds (sh : Kp) (sw : Wd) : Option (Int32) :=
  mob (fX2_watchers sw (wd_bath sw)) fun r_2 =>
  mob (fX1_oddsOf sh sw r_2) fun r_4 =>
  some r_4
theorem kX1_odds {R : Room} {s : State} {args : Array Value} {own : String} {idx mc ms : Nat} {rm : Room} (hts : ∀ w ∈ lw_all, w.before args s = true) (hl : Cond.methodLink own idx yX1_odds ∈ lw_all) (hrc : rm.cells = mc) (hrs : rm.slots = ms) (hR : rm.frames + 1 ≤ R.frames ∧ 8 + (1 + 11) + rm.locals ≤ R.locals) : CallW R s args own RX1 idx yX1_odds cX1_odds 1 (some .int) (ws_ yX1_odds cX1_odds 1 (some .int)) rm mc ms 0 :=
  cwV 0 hts (lw_V hl q564 q565 q107 q566) rfl hrc hrs (by decide +kernel) hR
set_option maxHeartbeats 4000000 in
set_option maxRecDepth 100000 in
theorem mtX1_odds (l : Launch) (D : va_G) (k : Nat → ClassId) (ah : Nat → Nat) (aw : Nat → Nat) (adr : Nat → Nat) (aim : Nat → Nat) (ard : Nat → Nat) (asc : Nat → Nat) (ath : Nat → Nat) (awl : Nat → Nat) (alo : Nat → Nat) (atr : Nat → Nat) (Z : zZ) (hOK : zOK D zCl (zTys k) Z) (sh : Kp) (sw : Wd) (r : Int32) (hrun : fX1_odds sh sw = some r) :
    CtR l yX1_odds cX1_odds 1 (some .int) rX1_odds Z D zCl ((cH k ah aw adr aim ard asc ath awl alo atr sh) ++ (cW k aw sw)) [.ref (ah 0)] (some (.int r)) := by
  refine CtR.of (by decide) (Nat.le_of_ble_eq_true rfl) ?_
  intro p e s m args below meth c hE hP hz ls hl
  obtain ⟨hx, hb, hr, hml, hown, hts, hlocks, hname⟩ := hE
  have hown : s.vm.findClass RX1 = some m.cls := hown
  have hK := hOK.1 _ _ _ hz
  have hN := hOK.2.1 _ _ _ hz
  have hl : lv_has ls 1 [(0, .ref (ah 0))] := hl
  unfold fX1_odds at hrun
  refine lv_aload_n hx hb dX1_odds_0 rfl (lv_at hl 0 rfl) ?_
  refine lv_aload_n hx hb dX1_odds_1 rfl (lv_at hl 0 rfl) ?_
  refine va_get (ci := 1) (v := .ref (aw 0)) (C := RX1) (T := TX1) (N := 10) hx hb hts in_X1 hown hK hP 0 rfl rfl 0 (by decide) (hts _ q370) (fun _ h9 => h9) rfl dX1_odds_2 ?_
  refine lv_aload_n hx hb dX1_odds_5 rfl (lv_at hl 0 rfl) ?_
  refine va_get (ci := 1) (v := .ref (aw 0)) (C := RX1) (T := TX1) (N := 10) hx hb hts in_X1 hown hK hP 0 rfl rfl 0 (by decide) (hts _ q370) (fun _ h9 => h9) rfl dX1_odds_6 ?_
  refine va_getN (ci := 2) (v := .int (wd_bath sw)) (C := RX2) (T := TX2) (N := 21) hx hb hts in_X2 hown hK hP 1 rfl rfl 3 (by decide) (va_Nw.use rfl (hN _ (zN_of q171 rfl))) (fun _ h9 => h9) rfl dX1_odds_9 ?_
  obtain ⟨r_2, hc_1, hrun⟩ := mob_s rfl hrun
  refine cRV (As := [.int (wd_bath sw)]) (ci := 2) ⟨hx, hb, hml, hown, hts⟩ hOK hz va_S.rf (hP.sub (ws' := (cW k aw sw)) [1, 2, 3, 4, 5, 6, 7, 8, 9] rfl) (mtX2_watchers l D k aw Z hOK _ _ _ hc_1) (kX2_watchers hts q567 rfl rfl ⟨Nat.le_of_ble_eq_true rfl, Nat.le_of_ble_eq_true rfl⟩) 0 rfl rfl rfl hl.1 rfl (lv_room (Nat.le_of_ble_eq_true rfl)) ⟨Nat.le_of_ble_eq_true rfl, Nat.le_of_ble_eq_true rfl⟩ dX1_odds_12 ?_
  obtain ⟨r_4, hc_3, hrun⟩ := mob_s rfl hrun
  refine cRV (As := [.int r_2]) (ci := 1) ⟨hx, hb, hml, hown, hts⟩ hOK hz va_S.rf hP (mtX1_oddsOf l D k ah aw adr aim ard asc ath awl alo atr Z hOK _ _ _ _ hc_3) (kX1_oddsOf hts q582 rfl rfl ⟨Nat.le_of_ble_eq_true rfl, Nat.le_of_ble_eq_true rfl⟩) 0 rfl rfl rfl hl.1 rfl (lv_room (Nat.le_of_ble_eq_true rfl)) ⟨Nat.le_of_ble_eq_true rfl, Nat.le_of_ble_eq_true rfl⟩ dX1_odds_15 ?_
  cases hrun
  exact retR_i hx hb hr hlocks rfl dX1_odds_18
def rX1_send : Room := { frames := 3, cells := 0, slots := 0, locals := 67 }
noncomputable def fX1_send (sh : Kp) (sw : Wd) : Option (Int32) :=
  mob (fX2_watchers sw (wd_bath sw)) fun r_2 =>
  some r_2
theorem kX1_send {R : Room} {s : State} {args : Array Value} {own : String} {idx mc ms : Nat} {rm : Room} (hts : ∀ w ∈ lw_all, w.before args s = true) (hl : Cond.methodLink own idx yX1_send ∈ lw_all) (hrc : rm.cells = mc) (hrs : rm.slots = ms) (hR : rm.frames + 1 ≤ R.frames ∧ 8 + (1 + 11) + rm.locals ≤ R.locals) : CallW R s args own RX1 idx yX1_send cX1_send 1 (some .int) (ws_ yX1_send cX1_send 1 (some .int)) rm mc ms 0 :=
  cwV 0 hts (lw_V hl q594 q595 q107 q596) rfl hrc hrs (by decide +kernel) hR
set_option maxHeartbeats 4000000 in
set_option maxRecDepth 100000 in
theorem mtX1_send (l : Launch) (D : va_G) (k : Nat → ClassId) (ah : Nat → Nat) (aw : Nat → Nat) (adr : Nat → Nat) (aim : Nat → Nat) (ard : Nat → Nat) (asc : Nat → Nat) (ath : Nat → Nat) (awl : Nat → Nat) (alo : Nat → Nat) (atr : Nat → Nat) (Z : zZ) (hOK : zOK D zCl (zTys k) Z) (sh : Kp) (sw : Wd) (r : Int32) (hrun : fX1_send sh sw = some r) :
    CtR l yX1_send cX1_send 1 (some .int) rX1_send Z D zCl ((cH k ah aw adr aim ard asc ath awl alo atr sh) ++ (cW k aw sw)) [.ref (ah 0)] (some (.int r)) := by
  refine CtR.of (by decide) (Nat.le_of_ble_eq_true rfl) ?_
  intro p e s m args below meth c hE hP hz ls hl
  obtain ⟨hx, hb, hr, hml, hown, hts, hlocks, hname⟩ := hE
  have hown : s.vm.findClass RX1 = some m.cls := hown
  have hK := hOK.1 _ _ _ hz
  have hN := hOK.2.1 _ _ _ hz
  have hl : lv_has ls 1 [(0, .ref (ah 0))] := hl
  unfold fX1_send at hrun
  refine lv_aload_n hx hb dX1_send_0 rfl (lv_at hl 0 rfl) ?_
  refine va_get (ci := 1) (v := .ref (aw 0)) (C := RX1) (T := TX1) (N := 10) hx hb hts in_X1 hown hK hP 0 rfl rfl 0 (by decide) (hts _ q370) (fun _ h9 => h9) rfl dX1_send_1 ?_
  refine lv_aload_n hx hb dX1_send_4 rfl (lv_at hl 0 rfl) ?_
  refine va_get (ci := 1) (v := .ref (aw 0)) (C := RX1) (T := TX1) (N := 10) hx hb hts in_X1 hown hK hP 0 rfl rfl 0 (by decide) (hts _ q370) (fun _ h9 => h9) rfl dX1_send_5 ?_
  refine va_getN (ci := 2) (v := .int (wd_bath sw)) (C := RX2) (T := TX2) (N := 21) hx hb hts in_X2 hown hK hP 1 rfl rfl 3 (by decide) (va_Nw.use rfl (hN _ (zN_of q171 rfl))) (fun _ h9 => h9) rfl dX1_send_8 ?_
  obtain ⟨r_2, hc_1, hrun⟩ := mob_s rfl hrun
  refine cRV (As := [.int (wd_bath sw)]) (ci := 2) ⟨hx, hb, hml, hown, hts⟩ hOK hz va_S.rf (hP.sub (ws' := (cW k aw sw)) [1, 2, 3, 4, 5, 6, 7, 8, 9] rfl) (mtX2_watchers l D k aw Z hOK _ _ _ hc_1) (kX2_watchers hts q567 rfl rfl ⟨Nat.le_of_ble_eq_true rfl, Nat.le_of_ble_eq_true rfl⟩) 0 rfl rfl rfl hl.1 rfl (lv_room (Nat.le_of_ble_eq_true rfl)) ⟨Nat.le_of_ble_eq_true rfl, Nat.le_of_ble_eq_true rfl⟩ dX1_send_11 ?_
  cases hrun
  exact retR_i hx hb hr hlocks rfl dX1_send_14
def rX1_quiet : Room := { frames := 3, cells := 0, slots := 0, locals := 67 }
noncomputable def fX1_quiet_L4 (sw : Wd) : Nat → Int32 → Int32 → Option (Int32)
  | 0, _, _ => none
  | n + 1, x1_2, x2_3 =>
    if (8 : Int32) ≤ x2_3 then
      some x1_2
    else
      mob (fX2_watchers sw x2_3) fun r_6 =>
      if r_6 = (0 : Int32) then
        fX1_quiet_L4 sw n (x1_2 ||| ((1 : Int32) <<< (x2_3 &&& (31 : Int32)))) (x2_3 + (1 : Int32))
      else
        fX1_quiet_L4 sw n (x1_2 ||| (0 : Int32)) (x2_3 + (1 : Int32))
noncomputable def fX1_quiet (sh : Kp) (sw : Wd) : Option (Int32) :=
  fX1_quiet_L4 sw mFU (0 : Int32) (0 : Int32)
theorem kX1_quiet {R : Room} {s : State} {args : Array Value} {own : String} {idx mc ms : Nat} {rm : Room} (hts : ∀ w ∈ lw_all, w.before args s = true) (hl : Cond.methodLink own idx yX1_quiet ∈ lw_all) (hrc : rm.cells = mc) (hrs : rm.slots = ms) (hR : rm.frames + 1 ≤ R.frames ∧ 8 + (3 + 11) + rm.locals ≤ R.locals) : CallW R s args own RX1 idx yX1_quiet cX1_quiet 3 (some .int) (ws_ yX1_quiet cX1_quiet 3 (some .int)) rm mc ms 0 :=
  cwV 0 hts (lw_V hl q614 q615 q107 q616) rfl hrc hrs (by decide +kernel) hR
set_option maxHeartbeats 4000000 in
set_option maxRecDepth 100000 in
theorem mtX1_quiet (l : Launch) (D : va_G) (k : Nat → ClassId) (ah : Nat → Nat) (aw : Nat → Nat) (adr : Nat → Nat) (aim : Nat → Nat) (ard : Nat → Nat) (asc : Nat → Nat) (ath : Nat → Nat) (awl : Nat → Nat) (alo : Nat → Nat) (atr : Nat → Nat) (Z : zZ) (hOK : zOK D zCl (zTys k) Z) (sh : Kp) (sw : Wd) (r : Int32) (hrun : fX1_quiet sh sw = some r) :
    CtR l yX1_quiet cX1_quiet 3 (some .int) rX1_quiet Z D zCl ((cH k ah aw adr aim ard asc ath awl alo atr sh) ++ (cW k aw sw)) [.ref (ah 0)] (some (.int r)) := by
  refine CtR.of (by decide) (Nat.le_of_ble_eq_true rfl) ?_
  intro p e s m args below meth c hE hP hz ls hl
  obtain ⟨hx, hb, hr, hml, hown, hts, hlocks, hname⟩ := hE
  have hown : s.vm.findClass RX1 = some m.cls := hown
  have hK := hOK.1 _ _ _ hz
  have hN := hOK.2.1 _ _ _ hz
  have hl : lv_has ls 3 [(0, .ref (ah 0))] := hl
  unfold fX1_quiet at hrun
  refine lv_iconst (v := (0 : Int32)) hx hb dX1_quiet_0 (by decide) ?_
  refine lv_istore_n (lv' := [(1, .int (0 : Int32)), (0, .ref (ah 0))]) hx hb dX1_quiet_1 rfl hl (by decide) rfl (fun ls hl => ?_)
  refine lv_iconst (v := (0 : Int32)) hx hb dX1_quiet_2 (by decide) ?_
  refine lv_istore_n (lv' := [(2, .int (0 : Int32)), (1, .int (0 : Int32)), (0, .ref (ah 0))]) hx hb dX1_quiet_3 rfl hl (by decide) rfl (fun ls hl => ?_)
  have hL_1 : ∀ n : Nat, ∀ (x1_2 : Int32) (x2_3 : Int32), ∀ ls : Array Slot, lv_has ls 3 [(0, .ref (ah 0)), (1, .int x1_2), (2, .int x2_3)] → fX1_quiet_L4 sw n x1_2 x2_3 = some r → W p l e rX1_quiet s m args below meth c s.heap [] 0 0 (MQ below (QRr (some (.int r))) args s 0 0 (fun _ => False)) (F0 m 4 ls []) := by
    intro n
    induction n with
    | zero =>
      intro x1_2 x2_3 ls hl hrun
      exact nomatch hrun
    | succ n ih =>
      intro x1_2 x2_3 ls hl hrun
      rw [fX1_quiet_L4.eq_2] at hrun
      refine lv_iload_n hx hb dX1_quiet_4 rfl (lv_at hl 2 rfl) ?_
      refine lv_bipush (v := (8 : Int32)) hx hb dX1_quiet_5 (by decide) ?_
      refine lv_icmp_ge (tgt := 37) hx hb dX1_quiet_7 (by decide) (fun c_4 => ?_) (fun c_4 => ?_)
      · have hrun := mif_p c_4 hrun
        refine lv_iload_n hx hb dX1_quiet_37 rfl (lv_at hl 1 rfl) ?_
        cases hrun
        exact retR_i hx hb hr hlocks rfl dX1_quiet_38
      have hrun := mif_n c_4 hrun
      refine lv_iload_n hx hb dX1_quiet_10 rfl (lv_at hl 1 rfl) ?_
      refine lv_aload_n hx hb dX1_quiet_11 rfl (lv_at hl 0 rfl) ?_
      refine va_get (ci := 1) (v := .ref (aw 0)) (C := RX1) (T := TX1) (N := 10) hx hb hts in_X1 hown hK hP 0 rfl rfl 0 (by decide) (hts _ q370) (fun _ h9 => h9) rfl dX1_quiet_12 ?_
      refine lv_iload_n hx hb dX1_quiet_15 rfl (lv_at hl 2 rfl) ?_
      obtain ⟨r_6, hc_5, hrun⟩ := mob_s rfl hrun
      refine cRV (As := [.int x2_3]) (ci := 2) ⟨hx, hb, hml, hown, hts⟩ hOK hz va_S.rf (hP.sub (ws' := (cW k aw sw)) [1, 2, 3, 4, 5, 6, 7, 8, 9] rfl) (mtX2_watchers l D k aw Z hOK _ _ _ hc_5) (kX2_watchers hts q567 rfl rfl ⟨Nat.le_of_ble_eq_true rfl, Nat.le_of_ble_eq_true rfl⟩) 0 rfl rfl rfl hl.1 rfl (lv_room (Nat.le_of_ble_eq_true rfl)) ⟨Nat.le_of_ble_eq_true rfl, Nat.le_of_ble_eq_true rfl⟩ dX1_quiet_16 ?_
      refine lv_if_ne (tgt := 28) hx hb dX1_quiet_19 (by decide) (fun c_7 => ?_) (fun c_7 => ?_)
      · have hrun := mif_n c_7 hrun
        refine lv_iconst (v := (0 : Int32)) hx hb dX1_quiet_28 (by decide) ?_
        refine lv_ior hx hb dX1_quiet_29 ?_
        refine lv_istore_n (lv' := [(1, .int (x1_2 ||| (0 : Int32))), (0, .ref (ah 0)), (2, .int x2_3)]) hx hb dX1_quiet_30 rfl hl (by decide) rfl (fun ls hl => ?_)
        refine lv_iinc (v := (x2_3 + (1 : Int32))) (lv' := [(2, .int (x2_3 + (1 : Int32))), (1, .int (x1_2 ||| (0 : Int32))), (0, .ref (ah 0))]) hx hb dX1_quiet_31 hl (k := 2) rfl rfl (by decide) rfl (fun ls hl => ?_)
        refine lv_goto (tgt := 4) hx hb dX1_quiet_34 (by decide) ?_
        exact ih (x1_2 ||| (0 : Int32)) (x2_3 + (1 : Int32)) ls (lv_sub hl [2, 1, 0] rfl) hrun
      have hrun := mif_p c_7 hrun
      refine lv_iconst (v := (1 : Int32)) hx hb dX1_quiet_22 (by decide) ?_
      refine lv_iload_n hx hb dX1_quiet_23 rfl (lv_at hl 2 rfl) ?_
      refine lv_ishl hx hb dX1_quiet_24 ?_
      refine lv_goto (tgt := 29) hx hb dX1_quiet_25 (by decide) ?_
      refine lv_ior hx hb dX1_quiet_29 ?_
      refine lv_istore_n (lv' := [(1, .int (x1_2 ||| ((1 : Int32) <<< (x2_3 &&& (31 : Int32))))), (0, .ref (ah 0)), (2, .int x2_3)]) hx hb dX1_quiet_30 rfl hl (by decide) rfl (fun ls hl => ?_)
      refine lv_iinc (v := (x2_3 + (1 : Int32))) (lv' := [(2, .int (x2_3 + (1 : Int32))), (1, .int (x1_2 ||| ((1 : Int32) <<< (x2_3 &&& (31 : Int32))))), (0, .ref (ah 0))]) hx hb dX1_quiet_31 hl (k := 2) rfl rfl (by decide) rfl (fun ls hl => ?_)
      refine lv_goto (tgt := 4) hx hb dX1_quiet_34 (by decide) ?_
      exact ih (x1_2 ||| ((1 : Int32) <<< (x2_3 &&& (31 : Int32)))) (x2_3 + (1 : Int32)) ls (lv_sub hl [2, 1, 0] rfl) hrun
  exact hL_1 mFU (0 : Int32) (0 : Int32) ls (lv_sub hl [2, 1, 0] rfl) hrun
def rX1_weightOf : Room := { frames := 3, cells := 0, slots := 0, locals := 67 }
noncomputable def fX1_weightOf (sh : Kp) (sw : Wd) (p1 : Int32) : Option (Int32) :=
  mob (fX2_watchers sw p1) fun r_2 =>
  mob (fJ16_bitCount r_2) fun r_4 =>
  mob (fX1_riskOf sh sw r_2) fun r_6 =>
  some (((999 : Int32) * r_4) + r_6)
theorem kX1_weightOf {R : Room} {s : State} {args : Array Value} {own : String} {idx mc ms : Nat} {rm : Room} (hts : ∀ w ∈ lw_all, w.before args s = true) (hl : Cond.methodLink own idx yX1_weightOf ∈ lw_all) (hrc : rm.cells = mc) (hrs : rm.slots = ms) (hR : rm.frames + 1 ≤ R.frames ∧ 8 + (3 + 11) + rm.locals ≤ R.locals) : CallW R s args own RX1 idx yX1_weightOf cX1_weightOf 3 (some .int) (ws_ yX1_weightOf cX1_weightOf 3 (some .int)) rm mc ms 1 :=
  cwV 1 hts (lw_V hl q623 qs5 q107 q624) rfl hrc hrs (by decide +kernel) hR
set_option maxHeartbeats 4000000 in
set_option maxRecDepth 100000 in
theorem mtX1_weightOf (l : Launch) (D : va_G) (k : Nat → ClassId) (ah : Nat → Nat) (aw : Nat → Nat) (adr : Nat → Nat) (aim : Nat → Nat) (ard : Nat → Nat) (asc : Nat → Nat) (ath : Nat → Nat) (awl : Nat → Nat) (alo : Nat → Nat) (atr : Nat → Nat) (Z : zZ) (hOK : zOK D zCl (zTys k) Z) (sh : Kp) (sw : Wd) (p1 : Int32) (r : Int32) (hrun : fX1_weightOf sh sw p1 = some r) :
    CtR l yX1_weightOf cX1_weightOf 3 (some .int) rX1_weightOf Z D zCl ((cH k ah aw adr aim ard asc ath awl alo atr sh) ++ (cW k aw sw)) [.ref (ah 0), .int p1] (some (.int r)) := by
  refine CtR.of (by decide) (Nat.le_of_ble_eq_true rfl) ?_
  intro p e s m args below meth c hE hP hz ls hl
  obtain ⟨hx, hb, hr, hml, hown, hts, hlocks, hname⟩ := hE
  have hown : s.vm.findClass RX1 = some m.cls := hown
  have hK := hOK.1 _ _ _ hz
  have hN := hOK.2.1 _ _ _ hz
  have hl : lv_has ls 3 [(0, .ref (ah 0)), (1, .int p1)] := hl
  unfold fX1_weightOf at hrun
  refine lv_aload_n hx hb dX1_weightOf_0 rfl (lv_at hl 0 rfl) ?_
  refine va_get (ci := 1) (v := .ref (aw 0)) (C := RX1) (T := TX1) (N := 10) hx hb hts in_X1 hown hK hP 0 rfl rfl 0 (by decide) (hts _ q370) (fun _ h9 => h9) rfl dX1_weightOf_1 ?_
  refine lv_iload_n hx hb dX1_weightOf_4 rfl (lv_at hl 1 rfl) ?_
  obtain ⟨r_2, hc_1, hrun⟩ := mob_s rfl hrun
  refine cRV (As := [.int p1]) (ci := 2) ⟨hx, hb, hml, hown, hts⟩ hOK hz va_S.rf (hP.sub (ws' := (cW k aw sw)) [1, 2, 3, 4, 5, 6, 7, 8, 9] rfl) (mtX2_watchers l D k aw Z hOK _ _ _ hc_1) (kX2_watchers hts q567 rfl rfl ⟨Nat.le_of_ble_eq_true rfl, Nat.le_of_ble_eq_true rfl⟩) 0 rfl rfl rfl hl.1 rfl (lv_room (Nat.le_of_ble_eq_true rfl)) ⟨Nat.le_of_ble_eq_true rfl, Nat.le_of_ble_eq_true rfl⟩ dX1_weightOf_5 ?_
  refine lv_istore_n (lv' := [(2, .int r_2), (0, .ref (ah 0)), (1, .int p1)]) hx hb dX1_weightOf_8 rfl hl (by decide) rfl (fun ls hl => ?_)
  refine lv_sipush (v := (999 : Int32)) hx hb dX1_weightOf_9 (by decide) ?_
  refine lv_iload_n hx hb dX1_weightOf_12 rfl (lv_at hl 0 rfl) ?_
  obtain ⟨r_4, hc_3, hrun⟩ := mob_s rfl hrun
  refine cRS (ws := []) (As := [.int r_2]) ⟨hx, hb, hml, hown, hts⟩ hOK hz va_S.rf zP0 (mtJ16_bitCount l D Z hOK _ _ hc_3) (kJ16_bitCount hts q456 rfl rfl ⟨Nat.le_of_ble_eq_true rfl, Nat.le_of_ble_eq_true rfl⟩) rfl hl.1 rfl (lv_room (Nat.le_of_ble_eq_true rfl)) ⟨Nat.le_of_ble_eq_true rfl, Nat.le_of_ble_eq_true rfl⟩ dX1_weightOf_13 ?_
  refine lv_imul hx hb dX1_weightOf_16 ?_
  refine lv_aload_n hx hb dX1_weightOf_17 rfl (lv_at hl 1 rfl) ?_
  refine lv_iload_n hx hb dX1_weightOf_18 rfl (lv_at hl 0 rfl) ?_
  obtain ⟨r_6, hc_5, hrun⟩ := mob_s rfl hrun
  refine cRV (As := [.int r_2]) (ci := 1) ⟨hx, hb, hml, hown, hts⟩ hOK hz va_S.rf hP (mtX1_riskOf l D k ah aw adr aim ard asc ath awl alo atr Z hOK _ _ _ _ hc_5) (kX1_riskOf hts q625 rfl rfl ⟨Nat.le_of_ble_eq_true rfl, Nat.le_of_ble_eq_true rfl⟩) 0 rfl rfl rfl hl.1 rfl (lv_room (Nat.le_of_ble_eq_true rfl)) ⟨Nat.le_of_ble_eq_true rfl, Nat.le_of_ble_eq_true rfl⟩ dX1_weightOf_19 ?_
  refine lv_iadd hx hb dX1_weightOf_22 ?_
  cases hrun
  exact retR_i hx hb hr hlocks rfl dX1_weightOf_23
def rX1_best : Room := { frames := 4, cells := 0, slots := 0, locals := 89 }
noncomputable def fX1_best_L4 (sh : Kp) (sw : Wd) : Nat → Int32 → Int32 → Option (Int32)
  | 0, _, _ => none
  | n + 1, x1_2, x2_3 =>
    if (8 : Int32) ≤ x2_3 then
      some x1_2
    else
      mob (fX1_weightOf sh sw x2_3) fun r_6 =>
      mob (fX1_weightOf sh sw x1_2) fun r_8 =>
      if r_8 ≤ r_6 then
        fX1_best_L4 sh sw n x1_2 (x2_3 + (1 : Int32))
      else
        fX1_best_L4 sh sw n x2_3 (x2_3 + (1 : Int32))
noncomputable def fX1_best (sh : Kp) (sw : Wd) : Option (Int32) :=
  fX1_best_L4 sh sw mFU (0 : Int32) (1 : Int32)
theorem kX1_best {R : Room} {s : State} {args : Array Value} {own : String} {idx mc ms : Nat} {rm : Room} (hts : ∀ w ∈ lw_all, w.before args s = true) (hl : Cond.methodLink own idx yX1_best ∈ lw_all) (hrc : rm.cells = mc) (hrs : rm.slots = ms) (hR : rm.frames + 1 ≤ R.frames ∧ 8 + (3 + 11) + rm.locals ≤ R.locals) : CallW R s args own RX1 idx yX1_best cX1_best 3 (some .int) (ws_ yX1_best cX1_best 3 (some .int)) rm mc ms 0 :=
  cwV 0 hts (lw_V hl q618 q619 q107 q620) rfl hrc hrs (by decide +kernel) hR
set_option maxHeartbeats 4000000 in
set_option maxRecDepth 100000 in
theorem mtX1_best (l : Launch) (D : va_G) (k : Nat → ClassId) (ah : Nat → Nat) (aw : Nat → Nat) (adr : Nat → Nat) (aim : Nat → Nat) (ard : Nat → Nat) (asc : Nat → Nat) (ath : Nat → Nat) (awl : Nat → Nat) (alo : Nat → Nat) (atr : Nat → Nat) (Z : zZ) (hOK : zOK D zCl (zTys k) Z) (sh : Kp) (sw : Wd) (r : Int32) (hrun : fX1_best sh sw = some r) :
    CtR l yX1_best cX1_best 3 (some .int) rX1_best Z D zCl ((cH k ah aw adr aim ard asc ath awl alo atr sh) ++ (cW k aw sw)) [.ref (ah 0)] (some (.int r)) := by
  refine CtR.of (by decide) (Nat.le_of_ble_eq_true rfl) ?_
  intro p e s m args below meth c hE hP hz ls hl
  obtain ⟨hx, hb, hr, hml, hown, hts, hlocks, hname⟩ := hE
  have hown : s.vm.findClass RX1 = some m.cls := hown
  have hK := hOK.1 _ _ _ hz
  have hN := hOK.2.1 _ _ _ hz
  have hl : lv_has ls 3 [(0, .ref (ah 0))] := hl
  unfold fX1_best at hrun
  refine lv_iconst (v := (0 : Int32)) hx hb dX1_best_0 (by decide) ?_
  refine lv_istore_n (lv' := [(1, .int (0 : Int32)), (0, .ref (ah 0))]) hx hb dX1_best_1 rfl hl (by decide) rfl (fun ls hl => ?_)
  refine lv_iconst (v := (1 : Int32)) hx hb dX1_best_2 (by decide) ?_
  refine lv_istore_n (lv' := [(2, .int (1 : Int32)), (1, .int (0 : Int32)), (0, .ref (ah 0))]) hx hb dX1_best_3 rfl hl (by decide) rfl (fun ls hl => ?_)
  have hL_1 : ∀ n : Nat, ∀ (x1_2 : Int32) (x2_3 : Int32), ∀ ls : Array Slot, lv_has ls 3 [(0, .ref (ah 0)), (1, .int x1_2), (2, .int x2_3)] → fX1_best_L4 sh sw n x1_2 x2_3 = some r → W p l e rX1_best s m args below meth c s.heap [] 0 0 (MQ below (QRr (some (.int r))) args s 0 0 (fun _ => False)) (F0 m 4 ls []) := by
    intro n
    induction n with
    | zero =>
      intro x1_2 x2_3 ls hl hrun
      exact nomatch hrun
    | succ n ih =>
      intro x1_2 x2_3 ls hl hrun
      rw [fX1_best_L4.eq_2] at hrun
      refine lv_iload_n hx hb dX1_best_4 rfl (lv_at hl 2 rfl) ?_
      refine lv_bipush (v := (8 : Int32)) hx hb dX1_best_5 (by decide) ?_
      refine lv_icmp_ge (tgt := 35) hx hb dX1_best_7 (by decide) (fun c_4 => ?_) (fun c_4 => ?_)
      · have hrun := mif_p c_4 hrun
        refine lv_iload_n hx hb dX1_best_35 rfl (lv_at hl 1 rfl) ?_
        cases hrun
        exact retR_i hx hb hr hlocks rfl dX1_best_36
      have hrun := mif_n c_4 hrun
      refine lv_aload_n hx hb dX1_best_10 rfl (lv_at hl 0 rfl) ?_
      refine lv_iload_n hx hb dX1_best_11 rfl (lv_at hl 2 rfl) ?_
      obtain ⟨r_6, hc_5, hrun⟩ := mob_s rfl hrun
      refine cRV (As := [.int x2_3]) (ci := 1) ⟨hx, hb, hml, hown, hts⟩ hOK hz va_S.rf hP (mtX1_weightOf l D k ah aw adr aim ard asc ath awl alo atr Z hOK _ _ _ _ hc_5) (kX1_weightOf hts q621 rfl rfl ⟨Nat.le_of_ble_eq_true rfl, Nat.le_of_ble_eq_true rfl⟩) 0 rfl rfl rfl hl.1 rfl (lv_room (Nat.le_of_ble_eq_true rfl)) ⟨Nat.le_of_ble_eq_true rfl, Nat.le_of_ble_eq_true rfl⟩ dX1_best_12 ?_
      refine lv_aload_n hx hb dX1_best_15 rfl (lv_at hl 0 rfl) ?_
      refine lv_iload_n hx hb dX1_best_16 rfl (lv_at hl 1 rfl) ?_
      obtain ⟨r_8, hc_7, hrun⟩ := mob_s rfl hrun
      refine cRV (As := [.int x1_2]) (ci := 1) ⟨hx, hb, hml, hown, hts⟩ hOK hz va_S.rf hP (mtX1_weightOf l D k ah aw adr aim ard asc ath awl alo atr Z hOK _ _ _ _ hc_7) (kX1_weightOf hts q621 rfl rfl ⟨Nat.le_of_ble_eq_true rfl, Nat.le_of_ble_eq_true rfl⟩) 0 rfl rfl rfl hl.1 rfl (lv_room (Nat.le_of_ble_eq_true rfl)) ⟨Nat.le_of_ble_eq_true rfl, Nat.le_of_ble_eq_true rfl⟩ dX1_best_17 ?_
      refine lv_icmp_ge (tgt := 27) hx hb dX1_best_20 (by decide) (fun c_9 => ?_) (fun c_9 => ?_)
      · have hrun := mif_p c_9 hrun
        refine lv_iload_n hx hb dX1_best_27 rfl (lv_at hl 1 rfl) ?_
        refine lv_istore_n (lv' := [(1, .int x1_2), (0, .ref (ah 0)), (2, .int x2_3)]) hx hb dX1_best_28 rfl hl (by decide) rfl (fun ls hl => ?_)
        refine lv_iinc (v := (x2_3 + (1 : Int32))) (lv' := [(2, .int (x2_3 + (1 : Int32))), (1, .int x1_2), (0, .ref (ah 0))]) hx hb dX1_best_29 hl (k := 2) rfl rfl (by decide) rfl (fun ls hl => ?_)
        refine lv_goto (tgt := 4) hx hb dX1_best_32 (by decide) ?_
        exact ih x1_2 (x2_3 + (1 : Int32)) ls (lv_sub hl [2, 1, 0] rfl) hrun
      have hrun := mif_n c_9 hrun
      refine lv_iload_n hx hb dX1_best_23 rfl (lv_at hl 2 rfl) ?_
      refine lv_goto (tgt := 28) hx hb dX1_best_24 (by decide) ?_
      refine lv_istore_n (lv' := [(1, .int x2_3), (0, .ref (ah 0)), (2, .int x2_3)]) hx hb dX1_best_28 rfl hl (by decide) rfl (fun ls hl => ?_)
      refine lv_iinc (v := (x2_3 + (1 : Int32))) (lv' := [(2, .int (x2_3 + (1 : Int32))), (1, .int x2_3), (0, .ref (ah 0))]) hx hb dX1_best_29 hl (k := 2) rfl rfl (by decide) rfl (fun ls hl => ?_)
      refine lv_goto (tgt := 4) hx hb dX1_best_32 (by decide) ?_
      exact ih x2_3 (x2_3 + (1 : Int32)) ls (lv_sub hl [2, 1, 0] rfl) hrun
  exact hL_1 mFU (0 : Int32) (1 : Int32) ls (lv_sub hl [2, 1, 0] rfl) hrun
def rX1_room : Room := { frames := 8, cells := 2, slots := 12, locals := 130 }
noncomputable def fX1_room (sh : Kp) (sw : Wd) (p1 : Int32) (p2 : Int32) : Option ((String) ⊕ (Int32)) :=
  mox (fX1_roomAt p1) (fun E_3 => some (.inl E_3)) fun _ =>
  mox (fX1_question p2 (3 : Int32)) (fun E_6 => some (.inl E_6)) fun _ =>
  if p2 = (0 : Int32) then
    mck p1 8 <|
    some (.inr ((wd_holes sw) (Int32.toNatClampNeg p1)))
  else
    if p2 = (1 : Int32) then
      mob (fX2_into sw p1) fun r_15 =>
      some (.inr r_15)
    else
      if p2 = (2 : Int32) then
        mob (fX2_inside sw p1) fun r_13 =>
        some (.inr r_13)
      else
        mob (fX2_watchers sw p1) fun r_11 =>
        some (.inr r_11)
theorem kX1_room {R : Room} {s : State} {args : Array Value} {own : String} {idx mc ms : Nat} {rm : Room} (hts : ∀ w ∈ lw_all, w.before args s = true) (hl : Cond.methodLink own idx yX1_room ∈ lw_all) (hrc : rm.cells = mc) (hrs : rm.slots = ms) (hR : rm.frames + 1 ≤ R.frames ∧ 8 + (3 + 11) + rm.locals ≤ R.locals) : CallW R s args own RX1 idx yX1_room cX1_room 3 (some .int) (ws_ yX1_room cX1_room 3 (some .int)) rm mc ms 2 :=
  cwV 2 hts (lw_V hl q1600 q1601 q107 q1602) rfl hrc hrs (by decide +kernel) hR
set_option maxHeartbeats 4000000 in
set_option maxRecDepth 100000 in
theorem mtX1_room (l : Launch) (D : va_G) (k : Nat → ClassId) (ah : Nat → Nat) (aw : Nat → Nat) (adr : Nat → Nat) (aim : Nat → Nat) (ard : Nat → Nat) (asc : Nat → Nat) (ath : Nat → Nat) (awl : Nat → Nat) (alo : Nat → Nat) (atr : Nat → Nat) (Z : zZ) (hOK : zOK D zCl (zTys k) Z) (hlt : l.stackTraces = false) (hTh : zTh Z) (sh : Kp) (sw : Wd) (p1 : Int32) (p2 : Int32) (o : (String) ⊕ (Int32)) (hrun : fX1_room sh sw p1 p2 = some o) :
    CtX l yX1_room cX1_room 3 (some .int) rX1_room Z D zCl ((cH k ah aw adr aim ard asc ath awl alo atr sh) ++ (cW k aw sw)) [.ref (ah 0), .int p1, .int p2] (fun r' w' => ∃ (r : Int32), o = .inr r ∧ r' = (some (.int r)) ∧ w' = ((cH k ah aw adr aim ard asc ath awl alo atr sh) ++ (cW k aw sw))) (fun E' w' => o = .inl E' ∧ w' = ((cH k ah aw adr aim ard asc ath awl alo atr sh) ++ (cW k aw sw))) 2 12 := by
  refine CtX.of (by decide) (Nat.le_of_ble_eq_true rfl) ?_
  intro p e s m args below meth c A hE hnoh hA hP hD hS hz ls hl
  obtain ⟨hx, hb, hr, hml, hown, hts, hlocks, hname⟩ := hE
  have hown : s.vm.findClass RX1 = some m.cls := hown
  have hK := hOK.1 _ _ _ hz
  have hN := hOK.2.1 _ _ _ hz
  have hl : lv_has ls 3 [(0, .ref (ah 0)), (1, .int p1), (2, .int p2)] := hl
  unfold fX1_room at hrun
  refine lv_iload_n hx hb dX1_room_0 rfl (lv_at hl 1 rfl) ?_
  obtain ⟨o_2, hc_1, hrun⟩ := mox_s rfl hrun
  have hP := hP.sub (ws' := ([] ++ ([] ++ ((cH k ah aw adr aim ard asc ath awl alo atr sh) ++ (cW k aw sw))))) [0, 1, 2, 3, 4, 5, 6, 7, 8, 9] rfl
  have hD := hD.sub (ws' := ([] ++ ([] ++ ((cH k ah aw adr aim ard asc ath awl alo atr sh) ++ (cW k aw sw))))) [0, 1, 2, 3, 4, 5, 6, 7, 8, 9] (by decide) rfl
  refine cXS [] [] ((cH k ah aw adr aim ard asc ath awl alo atr sh) ++ (cW k aw sw)) (As := [.int p1]) ⟨hx, hb, hml, hown, hts⟩ hOK hz hS hA hP hD (mtX1_roomAt l D Z hOK hlt hTh _ o_2 hc_1) (kX1_roomAt hts q1603 rfl rfl ⟨Nat.le_of_ble_eq_true rfl, Nat.le_of_ble_eq_true rfl⟩) rfl hl.1 rfl (lv_room (Nat.le_of_ble_eq_true rfl)) ⟨Nat.le_of_ble_eq_true rfl, Nat.le_of_ble_eq_true rfl⟩ dX1_room_1 (fun E_ w_ ce_ q9_ H locs hq hP hD hS hce hcv hcl => ?_) (fun r_ w_ H locs hq hP hD hS => ?_)
  · obtain ⟨rfl, rfl⟩ := hq
    have hrun := moxl hrun
    cases hrun
    have hP := hP.sub (ws' := ((cH k ah aw adr aim ard asc ath awl alo atr sh) ++ (cW k aw sw))) [0, 1, 2, 3, 4, 5, 6, 7, 8, 9] rfl
    have hD := hD.sub (ws' := ((cH k ah aw adr aim ard asc ath awl alo atr sh) ++ (cW k aw sw))) [0, 1, 2, 3, 4, 5, 6, 7, 8, 9] (by decide) rfl
    exact zout hnoh hlocks hce hcv hcl hP hD hS ⟨rfl, rfl⟩ (Nat.le_of_ble_eq_true rfl) (Nat.le_of_ble_eq_true rfl)
  obtain ⟨rfl, rfl, rfl⟩ := hq
  have hrun := moxr hrun
  have hP := hP.sub (ws' := ((cH k ah aw adr aim ard asc ath awl alo atr sh) ++ (cW k aw sw))) [0, 1, 2, 3, 4, 5, 6, 7, 8, 9] rfl
  have hD := hD.sub (ws' := ((cH k ah aw adr aim ard asc ath awl alo atr sh) ++ (cW k aw sw))) [0, 1, 2, 3, 4, 5, 6, 7, 8, 9] (by decide) rfl
  refine lv_iload_n hx hb dX1_room_4 rfl (lv_at hl 2 rfl) ?_
  refine lv_iconst (v := (3 : Int32)) hx hb dX1_room_5 (by decide) ?_
  obtain ⟨o_5, hc_4, hrun⟩ := mox_s rfl hrun
  have hP := hP.sub (ws' := ([] ++ ([] ++ ((cH k ah aw adr aim ard asc ath awl alo atr sh) ++ (cW k aw sw))))) [0, 1, 2, 3, 4, 5, 6, 7, 8, 9] rfl
  have hD := hD.sub (ws' := ([] ++ ([] ++ ((cH k ah aw adr aim ard asc ath awl alo atr sh) ++ (cW k aw sw))))) [0, 1, 2, 3, 4, 5, 6, 7, 8, 9] (by decide) rfl
  refine cXS [] [] ((cH k ah aw adr aim ard asc ath awl alo atr sh) ++ (cW k aw sw)) (As := [.int p2, .int (3 : Int32)]) ⟨hx, hb, hml, hown, hts⟩ hOK hz hS hA hP hD (mtX1_question l D Z hOK hlt hTh _ _ o_5 hc_4) (kX1_question hts q1574 rfl rfl ⟨Nat.le_of_ble_eq_true rfl, Nat.le_of_ble_eq_true rfl⟩) rfl hl.1 rfl (lv_room (Nat.le_of_ble_eq_true rfl)) ⟨Nat.le_of_ble_eq_true rfl, Nat.le_of_ble_eq_true rfl⟩ dX1_room_6 (fun E_ w_ ce_ q9_ H locs hq hP hD hS hce hcv hcl => ?_) (fun r_ w_ H locs hq hP hD hS => ?_)
  · obtain ⟨rfl, rfl⟩ := hq
    have hrun := moxl hrun
    cases hrun
    have hP := hP.sub (ws' := ((cH k ah aw adr aim ard asc ath awl alo atr sh) ++ (cW k aw sw))) [0, 1, 2, 3, 4, 5, 6, 7, 8, 9] rfl
    have hD := hD.sub (ws' := ((cH k ah aw adr aim ard asc ath awl alo atr sh) ++ (cW k aw sw))) [0, 1, 2, 3, 4, 5, 6, 7, 8, 9] (by decide) rfl
    exact zout hnoh hlocks hce hcv hcl hP hD hS ⟨rfl, rfl⟩ (Nat.le_of_ble_eq_true rfl) (Nat.le_of_ble_eq_true rfl)
  obtain ⟨rfl, rfl, rfl⟩ := hq
  have hrun := moxr hrun
  have hP := hP.sub (ws' := ((cH k ah aw adr aim ard asc ath awl alo atr sh) ++ (cW k aw sw))) [0, 1, 2, 3, 4, 5, 6, 7, 8, 9] rfl
  have hD := hD.sub (ws' := ((cH k ah aw adr aim ard asc ath awl alo atr sh) ++ (cW k aw sw))) [0, 1, 2, 3, 4, 5, 6, 7, 8, 9] (by decide) rfl
  refine lv_iload_n hx hb dX1_room_9 rfl (lv_at hl 2 rfl) ?_
  refine lv_if_ne (tgt := 25) hx hb dX1_room_10 (by decide) (fun c_7 => ?_) (fun c_7 => ?_)
  · have hrun := mif_n c_7 hrun
    refine lv_iload_n hx hb dX1_room_25 rfl (lv_at hl 2 rfl) ?_
    refine lv_iconst (v := (1 : Int32)) hx hb dX1_room_26 (by decide) ?_
    refine lv_icmp_ne (tgt := 41) hx hb dX1_room_27 (by decide) (fun c_8 => ?_) (fun c_8 => ?_)
    · have hrun := mif_n c_8 hrun
      refine lv_iload_n hx hb dX1_room_41 rfl (lv_at hl 2 rfl) ?_
      refine lv_iconst (v := (2 : Int32)) hx hb dX1_room_42 (by decide) ?_
      refine lv_icmp_ne (tgt := 57) hx hb dX1_room_43 (by decide) (fun c_9 => ?_) (fun c_9 => ?_)
      · have hrun := mif_n c_9 hrun
        refine lv_aload_n hx hb dX1_room_57 rfl (lv_at hl 0 rfl) ?_
        refine va_get (ci := 1) (v := .ref (aw 0)) (C := RX1) (T := TX1) (N := 10) hx hb hts in_X1 hown hK hP 0 rfl rfl 0 (by decide) (hts _ q370) (fun _ h9 => h9) rfl dX1_room_58 ?_
        refine lv_iload_n hx hb dX1_room_61 rfl (lv_at hl 1 rfl) ?_
        obtain ⟨r_11, hc_10, hrun⟩ := mob_s rfl hrun
        refine cRV (As := [.int p1]) (ci := 2) ⟨hx, hb, hml, hown, hts⟩ hOK hz hS (hP.sub (ws' := (cW k aw sw)) [1, 2, 3, 4, 5, 6, 7, 8, 9] rfl) (mtX2_watchers l D k aw Z hOK _ _ _ hc_10) (kX2_watchers hts q567 rfl rfl ⟨Nat.le_of_ble_eq_true rfl, Nat.le_of_ble_eq_true rfl⟩) 0 rfl rfl rfl hl.1 rfl (lv_room (Nat.le_of_ble_eq_true rfl)) ⟨Nat.le_of_ble_eq_true rfl, Nat.le_of_ble_eq_true rfl⟩ dX1_room_62 ?_
        cases hrun
        refine W.widen (k := 2) (n := 12) (Nat.le_of_ble_eq_true rfl) (Nat.le_of_ble_eq_true rfl) ?_
        exact vx_ret (retW_i hx hb hr hlocks hP hD hS ⟨_, rfl, rfl, rfl⟩ dX1_room_65)
      have hrun := mif_p c_9 hrun
      refine lv_aload_n hx hb dX1_room_46 rfl (lv_at hl 0 rfl) ?_
      refine va_get (ci := 1) (v := .ref (aw 0)) (C := RX1) (T := TX1) (N := 10) hx hb hts in_X1 hown hK hP 0 rfl rfl 0 (by decide) (hts _ q370) (fun _ h9 => h9) rfl dX1_room_47 ?_
      refine lv_iload_n hx hb dX1_room_50 rfl (lv_at hl 1 rfl) ?_
      obtain ⟨r_13, hc_12, hrun⟩ := mob_s rfl hrun
      refine cRV (As := [.int p1]) (ci := 2) ⟨hx, hb, hml, hown, hts⟩ hOK hz hS (hP.sub (ws' := (cW k aw sw)) [1, 2, 3, 4, 5, 6, 7, 8, 9] rfl) (mtX2_inside l D k aw Z hOK _ _ _ hc_12) (kX2_inside hts q601 rfl rfl ⟨Nat.le_of_ble_eq_true rfl, Nat.le_of_ble_eq_true rfl⟩) 0 rfl rfl rfl hl.1 rfl (lv_room (Nat.le_of_ble_eq_true rfl)) ⟨Nat.le_of_ble_eq_true rfl, Nat.le_of_ble_eq_true rfl⟩ dX1_room_51 ?_
      refine lv_goto (tgt := 65) hx hb dX1_room_54 (by decide) ?_
      cases hrun
      refine W.widen (k := 2) (n := 12) (Nat.le_of_ble_eq_true rfl) (Nat.le_of_ble_eq_true rfl) ?_
      exact vx_ret (retW_i hx hb hr hlocks hP hD hS ⟨_, rfl, rfl, rfl⟩ dX1_room_65)
    have hrun := mif_p c_8 hrun
    refine lv_aload_n hx hb dX1_room_30 rfl (lv_at hl 0 rfl) ?_
    refine va_get (ci := 1) (v := .ref (aw 0)) (C := RX1) (T := TX1) (N := 10) hx hb hts in_X1 hown hK hP 0 rfl rfl 0 (by decide) (hts _ q370) (fun _ h9 => h9) rfl dX1_room_31 ?_
    refine lv_iload_n hx hb dX1_room_34 rfl (lv_at hl 1 rfl) ?_
    obtain ⟨r_15, hc_14, hrun⟩ := mob_s rfl hrun
    refine cRV (As := [.int p1]) (ci := 2) ⟨hx, hb, hml, hown, hts⟩ hOK hz hS (hP.sub (ws' := (cW k aw sw)) [1, 2, 3, 4, 5, 6, 7, 8, 9] rfl) (mtX2_into l D k aw Z hOK _ _ _ hc_14) (kX2_into hts q694 rfl rfl ⟨Nat.le_of_ble_eq_true rfl, Nat.le_of_ble_eq_true rfl⟩) 0 rfl rfl rfl hl.1 rfl (lv_room (Nat.le_of_ble_eq_true rfl)) ⟨Nat.le_of_ble_eq_true rfl, Nat.le_of_ble_eq_true rfl⟩ dX1_room_35 ?_
    refine lv_goto (tgt := 65) hx hb dX1_room_38 (by decide) ?_
    cases hrun
    refine W.widen (k := 2) (n := 12) (Nat.le_of_ble_eq_true rfl) (Nat.le_of_ble_eq_true rfl) ?_
    exact vx_ret (retW_i hx hb hr hlocks hP hD hS ⟨_, rfl, rfl, rfl⟩ dX1_room_65)
  have hrun := mif_p c_7 hrun
  refine lv_aload_n hx hb dX1_room_13 rfl (lv_at hl 0 rfl) ?_
  refine va_get (ci := 1) (v := .ref (aw 0)) (C := RX1) (T := TX1) (N := 10) hx hb hts in_X1 hown hK hP 0 rfl rfl 0 (by decide) (hts _ q370) (fun _ h9 => h9) rfl dX1_room_14 ?_
  refine va_getN (ci := 2) (v := .ref (aw 7)) (C := RX2) (T := TX2) (N := 21) hx hb hts in_X2 hown hK hP 1 rfl rfl 18 (by decide) (va_Nw.use rfl (hN _ (zN_of q204 rfl))) (fun _ h9 => h9) rfl dX1_room_17 ?_
  refine lv_iload_n hx hb dX1_room_20 rfl (lv_at hl 1 rfl) ?_
  obtain ⟨hb_16, hrun⟩ := mck_s rfl hrun
  refine va_iald hx hb hK hP 8 0 rfl rfl hb_16 dX1_room_21 ?_
  refine lv_goto (tgt := 65) hx hb dX1_room_22 (by decide) ?_
  cases hrun
  refine W.widen (k := 2) (n := 12) (Nat.le_of_ble_eq_true rfl) (Nat.le_of_ble_eq_true rfl) ?_
  exact vx_ret (retW_i hx hb hr hlocks hP hD hS ⟨_, rfl, rfl, rfl⟩ dX1_room_65)
