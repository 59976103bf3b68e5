/-! walks: X1_calendarAt, X1_isShift, X1_shiftsThatFit, X1_isWeek, X3_cut, X3_begins, X3_byteAt -/
def rX1_calendarAt : Room := { frames := 7, cells := 1, slots := 6, locals := 110 }
noncomputable def fX1_calendarAt (p0 : Int32) : Option ((String) ⊕ (Unit)) :=
  mox (fX1_there p0 (2 : Int32)) (fun E_3 => some (.inl E_3)) fun _ =>
  some (.inr ())
theorem kX1_calendarAt {R : Room} {s : State} {args : Array Value} {own : String} {idx mc ms : Nat} {rm : Room} (hts : ∀ w ∈ lw_all, w.before args s = true) (hl : Cond.methodLink own idx yX1_calendarAt ∈ lw_all) (hrc : rm.cells = mc) (hrs : rm.slots = ms) (hR : rm.frames + 1 ≤ R.frames ∧ 8 + (1 + 11) + rm.locals ≤ R.locals) : CallB R s args own idx yX1_calendarAt cX1_calendarAt 1 none (ws_ yX1_calendarAt cX1_calendarAt 1 none) rm mc ms 1 ∧ (Cond.static yX1_calendarAt).before args s = true :=
  va_cwS 1 hts (lw_S hl q1614 q107 q1615) rfl hrc hrs (by decide +kernel) hR
set_option maxHeartbeats 4000000 in
set_option maxRecDepth 100000 in
theorem mtX1_calendarAt (l : Launch) (D : va_G) (Z : zZ) {tys : List (ClassId × FieldType)} (hOK : zOK D zCl tys Z) (hlt : l.stackTraces = false) (hTh : zTh Z) (p0 : Int32) (o : (String) ⊕ (Unit)) (hrun : fX1_calendarAt p0 = some o) :
    CtX l yX1_calendarAt cX1_calendarAt 1 none rX1_calendarAt Z D zCl [] [.int p0] (fun r' w' => o = .inr () ∧ r' = none ∧ w' = []) (fun E' w' => o = .inl E' ∧ w' = []) 1 6 := by
  refine CtX.of (by decide) (Nat.le_of_ble_eq_true rfl) ?_
  intro p e s m args below meth c A hE hnoh hA hP hD hS hz ls hl
  obtain ⟨hx, hb, hr, hml, hown, hts, hlocks, hname⟩ := hE
  have hown : s.vm.findClass RX1 = some m.cls := hown
  have hK := hOK.1 _ _ _ hz
  have hN := hOK.2.1 _ _ _ hz
  have hl : lv_has ls 1 [(0, .int p0)] := hl
  unfold fX1_calendarAt at hrun
  refine lv_iload_n hx hb dX1_calendarAt_0 rfl (lv_at hl 0 rfl) ?_
  refine lv_iconst (v := (2 : Int32)) hx hb dX1_calendarAt_1 (by decide) ?_
  obtain ⟨o_2, hc_1, hrun⟩ := mox_s rfl hrun
  have hP := hP.sub (ws' := ([] ++ ([] ++ []))) [] rfl
  have hD := hD.sub (ws' := ([] ++ ([] ++ []))) [] (by decide) rfl
  refine cXS [] [] [] (As := [.int p0, .int (2 : Int32)]) ⟨hx, hb, hml, hown, hts⟩ hOK hz hS hA hP hD (mtX1_there l D Z hOK hlt hTh _ _ o_2 hc_1) (kX1_there hts q1556 rfl rfl ⟨Nat.le_of_ble_eq_true rfl, Nat.le_of_ble_eq_true rfl⟩) rfl hl.1 rfl (lv_room (Nat.le_of_ble_eq_true rfl)) ⟨Nat.le_of_ble_eq_true rfl, Nat.le_of_ble_eq_true rfl⟩ dX1_calendarAt_2 (fun E_ w_ ce_ q9_ H locs hq hP hD hS hce hcv hcl => ?_) (fun r_ w_ H locs hq hP hD hS => ?_)
  · obtain ⟨rfl, rfl⟩ := hq
    have hrun := moxl hrun
    cases hrun
    have hP := hP.sub (ws' := []) [] rfl
    have hD := hD.sub (ws' := []) [] (by decide) rfl
    exact zout hnoh hlocks hce hcv hcl hP hD hS ⟨rfl, rfl⟩ (Nat.le_of_ble_eq_true rfl) (Nat.le_of_ble_eq_true rfl)
  obtain ⟨rfl, rfl, rfl⟩ := hq
  have hrun := moxr hrun
  have hP := hP.sub (ws' := []) [] rfl
  have hD := hD.sub (ws' := []) [] (by decide) rfl
  cases hrun
  refine W.widen (k := 1) (n := 6) (Nat.le_of_ble_eq_true rfl) (Nat.le_of_ble_eq_true rfl) ?_
  exact vx_ret (retW_v hx hb hr hlocks hP hD hS ⟨rfl, rfl, rfl⟩ dX1_calendarAt_5)
def rX1_isShift : Room := { frames := 0, cells := 0, slots := 0, locals := 0 }
noncomputable def fX1_isShift_L7 (srd : Rd) (p1 : Int32) : Nat → Int32 → Option (Bool)
  | 0, _ => none
  | n + 1, x3_2 =>
    if (rd_end_ srd) ≤ x3_2 then
      some true
    else
      mck x3_2 400 <|
      mjn (fun (y_7 : Bool) =>
      mck (x3_2 + (1 : Int32)) 400 <|
      mjn (fun (y_12 : Bool) =>
      if (bz y_7) = (bz y_12) then
        fX1_isShift_L7 srd p1 n (x3_2 + (2 : Int32))
      else
        some false) fun K_13 =>
      if ((rd_tape srd) (Int32.toNatClampNeg (x3_2 + (1 : Int32)))) = (1 : Int32) then
        K_13 true
      else
        K_13 false) fun K_8 =>
      if (mrm (((rd_tape srd) (Int32.toNatClampNeg x3_2)) + p1) (7 : Int32)) = (6 : Int32) then
        K_8 true
      else
        K_8 false
noncomputable def fX1_isShift (sh : Kp) (srd : Rd) (p1 : Int32) : Option (Bool) :=
  fX1_isShift_L7 srd p1 mFU (0 : Int32)
theorem kX1_isShift {R : Room} {s : State} {args : Array Value} {own : String} {idx mc ms : Nat} {rm : Room} (hts : ∀ w ∈ lw_all, w.before args s = true) (hl : Cond.methodLink own idx yX1_isShift ∈ lw_all) (hrc : rm.cells = mc) (hrs : rm.slots = ms) (hR : rm.frames + 1 ≤ R.frames ∧ 8 + (4 + 11) + rm.locals ≤ R.locals) : CallW R s args own RX1 idx yX1_isShift cX1_isShift 4 (some .boolean) (ws_ yX1_isShift cX1_isShift 4 (some .boolean)) rm mc ms 1 :=
  cwV 1 hts (lw_V hl q1792 qs44 q107 q1793) rfl hrc hrs (by decide +kernel) hR
set_option maxHeartbeats 4000000 in
set_option maxRecDepth 100000 in
theorem mtX1_isShift (l : Launch) (D : va_G) (k : Nat → ClassId) (ah : Nat → Nat) (aw : Nat → Nat) (adr : Nat → Nat) (aim : Nat → Nat) (ard : Nat → Nat) (asc : Nat → Nat) (ath : Nat → Nat) (awl : Nat → Nat) (alo : Nat → Nat) (atr : Nat → Nat) (Z : zZ) (hOK : zOK D zCl (zTys k) Z) (sh : Kp) (srd : Rd) (p1 : Int32) (r : Bool) (hrun : fX1_isShift sh srd p1 = some r) :
    CtR l yX1_isShift cX1_isShift 4 (some .boolean) rX1_isShift Z D zCl ((cH k ah aw adr aim ard asc ath awl alo atr sh) ++ (cR k ard srd)) [.ref (ah 0), .int p1] (some (.int (bz r))) := by
  refine CtR.of (by decide) (Nat.le_of_ble_eq_true rfl) ?_
  intro p e s m args below meth c hE hP hz ls hl
  obtain ⟨hx, hb, hr, hml, hown, hts, hlocks, hname⟩ := hE
  have hown : s.vm.findClass RX1 = some m.cls := hown
  have hK := hOK.1 _ _ _ hz
  have hN := hOK.2.1 _ _ _ hz
  have hl : lv_has ls 4 [(0, .ref (ah 0)), (1, .int p1)] := hl
  unfold fX1_isShift at hrun
  refine lv_aload_n hx hb dX1_isShift_0 rfl (lv_at hl 0 rfl) ?_
  refine va_get (ci := 1) (v := .ref (ard 0)) (C := RX1) (T := TX1) (N := 10) hx hb hts in_X1 hown hK hP 0 rfl rfl 4 (by decide) (hts _ q375) (fun _ h9 => h9) rfl dX1_isShift_1 ?_
  refine lv_astore_n (lv' := [(2, .ref (ard 0)), (0, .ref (ah 0)), (1, .int p1)]) hx hb dX1_isShift_4 rfl hl (by decide) rfl (fun ls hl => ?_)
  refine lv_iconst (v := (0 : Int32)) hx hb dX1_isShift_5 (by decide) ?_
  refine lv_istore_n (lv' := [(3, .int (0 : Int32)), (2, .ref (ard 0)), (0, .ref (ah 0)), (1, .int p1)]) hx hb dX1_isShift_6 rfl hl (by decide) rfl (fun ls hl => ?_)
  have hL_1 : ∀ n : Nat, ∀ (x3_2 : Int32), ∀ ls : Array Slot, lv_has ls 4 [(1, .int p1), (2, .ref (ard 0)), (3, .int x3_2)] → fX1_isShift_L7 srd p1 n x3_2 = some r → W p l e rX1_isShift s m args below meth c s.heap [] 0 0 (MQ below (QRr (some (.int (bz r)))) args s 0 0 (fun _ => False)) (F0 m 7 ls []) := by
    intro n
    induction n with
    | zero =>
      intro x3_2 ls hl hrun
      exact nomatch hrun
    | succ n ih =>
      intro x3_2 ls hl hrun
      rw [fX1_isShift_L7.eq_2] at hrun
      refine lv_iload_n hx hb dX1_isShift_7 rfl (lv_at hl 2 rfl) ?_
      refine lv_aload_n hx hb dX1_isShift_8 rfl (lv_at hl 1 rfl) ?_
      refine va_getN (ci := 3) (v := .int (rd_end_ srd)) (C := RX3) (T := TX3) (N := 7) hx hb hts in_X3 hown hK hP 1 rfl rfl 2 (by decide) (va_Nw.use rfl (hN _ (zN_of q264 rfl))) (fun _ h9 => h9) rfl dX1_isShift_9 ?_
      refine lv_icmp_ge (tgt := 64) hx hb dX1_isShift_12 (by decide) (fun c_3 => ?_) (fun c_3 => ?_)
      · have hrun := mif_p c_3 hrun
        refine lv_iconst (v := (1 : Int32)) hx hb dX1_isShift_64 (by decide) ?_
        cases hrun
        exact retR_z (v := true) hx hb hr hlocks rfl dX1_isShift_65
      have hrun := mif_n c_3 hrun
      refine lv_aload_n hx hb dX1_isShift_15 rfl (lv_at hl 1 rfl) ?_
      refine va_getN (ci := 3) (v := .ref (ard 1)) (C := RX3) (T := TX3) (N := 7) hx hb hts in_X3 hown hK hP 1 rfl rfl 0 (by decide) (va_Nw.use rfl (hN _ (zN_of q261 rfl))) (fun _ h9 => h9) rfl dX1_isShift_16 ?_
      refine lv_iload_n hx hb dX1_isShift_19 rfl (lv_at hl 2 rfl) ?_
      obtain ⟨hb_4, hrun⟩ := mck_s rfl hrun
      refine va_bald hx hb hK hP 2 2 rfl rfl hb_4 dX1_isShift_20 ?_
      refine lv_iload_n hx hb dX1_isShift_21 rfl (lv_at hl 0 rfl) ?_
      refine lv_iadd hx hb dX1_isShift_22 ?_
      refine lv_bipush (v := (7 : Int32)) hx hb dX1_isShift_23 (by decide) ?_
      refine lv_irem hx hb dX1_isShift_25 (by decide) ?_
      refine lv_bipush (v := (6 : Int32)) hx hb dX1_isShift_26 (by decide) ?_
      obtain ⟨K_8, hK_8, hrun⟩ := mjn_s hrun
      have hj_6 : ∀ (y_7 : Bool), ∀ ls : Array Slot, lv_has ls 4 [(1, .int p1), (2, .ref (ard 0)), (3, .int x3_2)] → K_8 y_7 = some r → W p l e rX1_isShift s m args below meth c s.heap [] 0 0 (MQ below (QRr (some (.int (bz r)))) args s 0 0 (fun _ => False)) (F0 m 36 ls [.int (bz y_7)]) := by
        intro y_7 ls hl hrun
        rw [hK_8] at hrun
        refine lv_aload_n hx hb dX1_isShift_36 rfl (lv_at hl 1 rfl) ?_
        refine va_getN (ci := 3) (v := .ref (ard 1)) (C := RX3) (T := TX3) (N := 7) hx hb hts in_X3 hown hK hP 1 rfl rfl 0 (by decide) (va_Nw.use rfl (hN _ (zN_of q261 rfl))) (fun _ h9 => h9) rfl dX1_isShift_37 ?_
        refine lv_iload_n hx hb dX1_isShift_40 rfl (lv_at hl 2 rfl) ?_
        refine lv_iconst (v := (1 : Int32)) hx hb dX1_isShift_41 (by decide) ?_
        refine lv_iadd hx hb dX1_isShift_42 ?_
        obtain ⟨hb_9, hrun⟩ := mck_s rfl hrun
        refine va_bald hx hb hK hP 2 2 rfl rfl hb_9 dX1_isShift_43 ?_
        refine lv_iconst (v := (1 : Int32)) hx hb dX1_isShift_44 (by decide) ?_
        obtain ⟨K_13, hK_13, hrun⟩ := mjn_s hrun
        have hj_11 : ∀ (y_12 : Bool), ∀ ls : Array Slot, lv_has ls 4 [(1, .int p1), (2, .ref (ard 0)), (3, .int x3_2)] → K_13 y_12 = some r → W p l e rX1_isShift s m args below meth c s.heap [] 0 0 (MQ below (QRr (some (.int (bz r)))) args s 0 0 (fun _ => False)) (F0 m 53 ls [.int (bz y_12), .int (bz y_7)]) := by
          intro y_12 ls hl hrun
          rw [hK_13] at hrun
          refine lv_icmp_eq (tgt := 58) hx hb dX1_isShift_53 (by decide) (fun c_14 => ?_) (fun c_14 => ?_)
          · have hrun := mif_p c_14 hrun
            refine lv_iinc (v := (x3_2 + (2 : Int32))) (lv' := [(3, .int (x3_2 + (2 : Int32))), (1, .int p1), (2, .ref (ard 0))]) hx hb dX1_isShift_58 hl (k := 2) rfl rfl (by decide) rfl (fun ls hl => ?_)
            refine lv_goto (tgt := 7) hx hb dX1_isShift_61 (by decide) ?_
            exact ih (x3_2 + (2 : Int32)) ls (lv_sub hl [1, 2, 0] rfl) hrun
          have hrun := mif_n c_14 hrun
          refine lv_iconst (v := (0 : Int32)) hx hb dX1_isShift_56 (by decide) ?_
          cases hrun
          exact retR_z (v := false) hx hb hr hlocks rfl dX1_isShift_57
        refine lv_icmp_ne (tgt := 52) hx hb dX1_isShift_45 (by decide) (fun c_10 => ?_) (fun c_10 => ?_)
        · have hrun := mif_n c_10 hrun
          refine lv_iconst (v := (0 : Int32)) hx hb dX1_isShift_52 (by decide) ?_
          exact hj_11 false ls (lv_sub hl [0, 1, 2] rfl) hrun
        have hrun := mif_p c_10 hrun
        refine lv_iconst (v := (1 : Int32)) hx hb dX1_isShift_48 (by decide) ?_
        refine lv_goto (tgt := 53) hx hb dX1_isShift_49 (by decide) ?_
        exact hj_11 true ls (lv_sub hl [0, 1, 2] rfl) hrun
      refine lv_icmp_ne (tgt := 35) hx hb dX1_isShift_28 (by decide) (fun c_5 => ?_) (fun c_5 => ?_)
      · have hrun := mif_n c_5 hrun
        refine lv_iconst (v := (0 : Int32)) hx hb dX1_isShift_35 (by decide) ?_
        exact hj_6 false ls (lv_sub hl [0, 1, 2] rfl) hrun
      have hrun := mif_p c_5 hrun
      refine lv_iconst (v := (1 : Int32)) hx hb dX1_isShift_31 (by decide) ?_
      refine lv_goto (tgt := 36) hx hb dX1_isShift_32 (by decide) ?_
      exact hj_6 true ls (lv_sub hl [0, 1, 2] rfl) hrun
  exact hL_1 mFU (0 : Int32) ls (lv_sub hl [3, 1, 0] rfl) hrun
def rX1_shiftsThatFit : Room := { frames := 1, cells := 0, slots := 0, locals := 23 }
noncomputable def fX1_shiftsThatFit_L4 (sh : Kp) (srd : Rd) : Nat → Int32 → Int32 → Option (Int32)
  | 0, _, _ => none
  | n + 1, x1_2, x2_3 =>
    if (7 : Int32) ≤ x2_3 then
      some x1_2
    else
      mob (fX1_isShift sh srd x2_3) fun r_6 =>
      if r_6 = true then
        fX1_shiftsThatFit_L4 sh srd n (x1_2 ||| ((1 : Int32) <<< (x2_3 &&& (31 : Int32)))) (x2_3 + (1 : Int32))
      else
        fX1_shiftsThatFit_L4 sh srd n (x1_2 ||| (0 : Int32)) (x2_3 + (1 : Int32))
noncomputable def fX1_shiftsThatFit (sh : Kp) (srd : Rd) : Option (Int32) :=
  fX1_shiftsThatFit_L4 sh srd mFU (0 : Int32) (0 : Int32)
theorem kX1_shiftsThatFit {R : Room} {s : State} {args : Array Value} {own : String} {idx mc ms : Nat} {rm : Room} (hts : ∀ w ∈ lw_all, w.before args s = true) (hl : Cond.methodLink own idx yX1_shiftsThatFit ∈ lw_all) (hrc : rm.cells = mc) (hrs : rm.slots = ms) (hR : rm.frames + 1 ≤ R.frames ∧ 8 + (3 + 11) + rm.locals ≤ R.locals) : CallW R s args own RX1 idx yX1_shiftsThatFit cX1_shiftsThatFit 3 (some .int) (ws_ yX1_shiftsThatFit cX1_shiftsThatFit 3 (some .int)) rm mc ms 0 :=
  cwV 0 hts (lw_V hl q1788 qs43 q107 q1789) rfl hrc hrs (by decide +kernel) hR
set_option maxHeartbeats 4000000 in
set_option maxRecDepth 100000 in
theorem mtX1_shiftsThatFit (l : Launch) (D : va_G) (k : Nat → ClassId) (ah : Nat → Nat) (aw : Nat → Nat) (adr : Nat → Nat) (aim : Nat → Nat) (ard : Nat → Nat) (asc : Nat → Nat) (ath : Nat → Nat) (awl : Nat → Nat) (alo : Nat → Nat) (atr : Nat → Nat) (Z : zZ) (hOK : zOK D zCl (zTys k) Z) (sh : Kp) (srd : Rd) (r : Int32) (hrun : fX1_shiftsThatFit sh srd = some r) :
    CtR l yX1_shiftsThatFit cX1_shiftsThatFit 3 (some .int) rX1_shiftsThatFit Z D zCl ((cH k ah aw adr aim ard asc ath awl alo atr sh) ++ (cR k ard srd)) [.ref (ah 0)] (some (.int r)) := by
  refine CtR.of (by decide) (Nat.le_of_ble_eq_true rfl) ?_
  intro p e s m args below meth c hE hP hz ls hl
  obtain ⟨hx, hb, hr, hml, hown, hts, hlocks, hname⟩ := hE
  have hown : s.vm.findClass RX1 = some m.cls := hown
  have hK := hOK.1 _ _ _ hz
  have hN := hOK.2.1 _ _ _ hz
  have hl : lv_has ls 3 [(0, .ref (ah 0))] := hl
  unfold fX1_shiftsThatFit at hrun
  refine lv_iconst (v := (0 : Int32)) hx hb dX1_shiftsThatFit_0 (by decide) ?_
  refine lv_istore_n (lv' := [(1, .int (0 : Int32)), (0, .ref (ah 0))]) hx hb dX1_shiftsThatFit_1 rfl hl (by decide) rfl (fun ls hl => ?_)
  refine lv_iconst (v := (0 : Int32)) hx hb dX1_shiftsThatFit_2 (by decide) ?_
  refine lv_istore_n (lv' := [(2, .int (0 : Int32)), (1, .int (0 : Int32)), (0, .ref (ah 0))]) hx hb dX1_shiftsThatFit_3 rfl hl (by decide) rfl (fun ls hl => ?_)
  have hL_1 : ∀ n : Nat, ∀ (x1_2 : Int32) (x2_3 : Int32), ∀ ls : Array Slot, lv_has ls 3 [(0, .ref (ah 0)), (1, .int x1_2), (2, .int x2_3)] → fX1_shiftsThatFit_L4 sh srd n x1_2 x2_3 = some r → W p l e rX1_shiftsThatFit s m args below meth c s.heap [] 0 0 (MQ below (QRr (some (.int r))) args s 0 0 (fun _ => False)) (F0 m 4 ls []) := by
    intro n
    induction n with
    | zero =>
      intro x1_2 x2_3 ls hl hrun
      exact nomatch hrun
    | succ n ih =>
      intro x1_2 x2_3 ls hl hrun
      rw [fX1_shiftsThatFit_L4.eq_2] at hrun
      refine lv_iload_n hx hb dX1_shiftsThatFit_4 rfl (lv_at hl 2 rfl) ?_
      refine lv_bipush (v := (7 : Int32)) hx hb dX1_shiftsThatFit_5 (by decide) ?_
      refine lv_icmp_ge (tgt := 34) hx hb dX1_shiftsThatFit_7 (by decide) (fun c_4 => ?_) (fun c_4 => ?_)
      · have hrun := mif_p c_4 hrun
        refine lv_iload_n hx hb dX1_shiftsThatFit_34 rfl (lv_at hl 1 rfl) ?_
        cases hrun
        exact retR_i hx hb hr hlocks rfl dX1_shiftsThatFit_35
      have hrun := mif_n c_4 hrun
      refine lv_iload_n hx hb dX1_shiftsThatFit_10 rfl (lv_at hl 1 rfl) ?_
      refine lv_aload_n hx hb dX1_shiftsThatFit_11 rfl (lv_at hl 0 rfl) ?_
      refine lv_iload_n hx hb dX1_shiftsThatFit_12 rfl (lv_at hl 2 rfl) ?_
      obtain ⟨r_6, hc_5, hrun⟩ := mob_s rfl hrun
      refine cRV (As := [.int x2_3]) (ci := 1) ⟨hx, hb, hml, hown, hts⟩ hOK hz va_S.rf hP (mtX1_isShift l D k ah aw adr aim ard asc ath awl alo atr Z hOK _ _ _ _ hc_5) (kX1_isShift hts q1790 rfl rfl ⟨Nat.le_of_ble_eq_true rfl, Nat.le_of_ble_eq_true rfl⟩) 0 rfl rfl rfl hl.1 rfl (lv_room (Nat.le_of_ble_eq_true rfl)) ⟨Nat.le_of_ble_eq_true rfl, Nat.le_of_ble_eq_true rfl⟩ dX1_shiftsThatFit_13 ?_
      refine lv_if_eq (tgt := 25) hx hb dX1_shiftsThatFit_16 (by decide) (fun c_7 => ?_) (fun c_7 => ?_)
      · have hrun := mif_n (bz_z c_7) hrun
        refine lv_iconst (v := (0 : Int32)) hx hb dX1_shiftsThatFit_25 (by decide) ?_
        refine lv_ior hx hb dX1_shiftsThatFit_26 ?_
        refine lv_istore_n (lv' := [(1, .int (x1_2 ||| (0 : Int32))), (0, .ref (ah 0)), (2, .int x2_3)]) hx hb dX1_shiftsThatFit_27 rfl hl (by decide) rfl (fun ls hl => ?_)
        refine lv_iinc (v := (x2_3 + (1 : Int32))) (lv' := [(2, .int (x2_3 + (1 : Int32))), (1, .int (x1_2 ||| (0 : Int32))), (0, .ref (ah 0))]) hx hb dX1_shiftsThatFit_28 hl (k := 2) rfl rfl (by decide) rfl (fun ls hl => ?_)
        refine lv_goto (tgt := 4) hx hb dX1_shiftsThatFit_31 (by decide) ?_
        exact ih (x1_2 ||| (0 : Int32)) (x2_3 + (1 : Int32)) ls (lv_sub hl [2, 1, 0] rfl) hrun
      have hrun := mif_p (bz_nz c_7) hrun
      refine lv_iconst (v := (1 : Int32)) hx hb dX1_shiftsThatFit_19 (by decide) ?_
      refine lv_iload_n hx hb dX1_shiftsThatFit_20 rfl (lv_at hl 2 rfl) ?_
      refine lv_ishl hx hb dX1_shiftsThatFit_21 ?_
      refine lv_goto (tgt := 26) hx hb dX1_shiftsThatFit_22 (by decide) ?_
      refine lv_ior hx hb dX1_shiftsThatFit_26 ?_
      refine lv_istore_n (lv' := [(1, .int (x1_2 ||| ((1 : Int32) <<< (x2_3 &&& (31 : Int32))))), (0, .ref (ah 0)), (2, .int x2_3)]) hx hb dX1_shiftsThatFit_27 rfl hl (by decide) rfl (fun ls hl => ?_)
      refine lv_iinc (v := (x2_3 + (1 : Int32))) (lv' := [(2, .int (x2_3 + (1 : Int32))), (1, .int (x1_2 ||| ((1 : Int32) <<< (x2_3 &&& (31 : Int32))))), (0, .ref (ah 0))]) hx hb dX1_shiftsThatFit_28 hl (k := 2) rfl rfl (by decide) rfl (fun ls hl => ?_)
      refine lv_goto (tgt := 4) hx hb dX1_shiftsThatFit_31 (by decide) ?_
      exact ih (x1_2 ||| ((1 : Int32) <<< (x2_3 &&& (31 : Int32)))) (x2_3 + (1 : Int32)) ls (lv_sub hl [2, 1, 0] rfl) hrun
  exact hL_1 mFU (0 : Int32) (0 : Int32) ls (lv_sub hl [2, 1, 0] rfl) hrun
def rX1_isWeek : Room := { frames := 0, cells := 0, slots := 0, locals := 0 }
noncomputable def fX1_isWeek_L7 (srd : Rd) (p1 : Int32) : Nat → Int32 → Option (Bool)
  | 0, _ => none
  | n + 1, x3_2 =>
    if (rd_end_ srd) ≤ x3_2 then
      some true
    else
      mck x3_2 400 <|
      mjn (fun (y_7 : Bool) =>
      mck (x3_2 + (1 : Int32)) 400 <|
      mjn (fun (y_12 : Bool) =>
      if (bz y_7) = (bz y_12) then
        fX1_isWeek_L7 srd p1 n (x3_2 + (2 : Int32))
      else
        some false) fun K_13 =>
      if ((rd_tape srd) (Int32.toNatClampNeg (x3_2 + (1 : Int32)))) = (1 : Int32) then
        K_13 true
      else
        K_13 false) fun K_8 =>
      if ((rd_tape srd) (Int32.toNatClampNeg x3_2)) < p1 then
        K_8 false
      else
        K_8 true
noncomputable def fX1_isWeek (sh : Kp) (srd : Rd) (p1 : Int32) : Option (Bool) :=
  fX1_isWeek_L7 srd p1 mFU (0 : Int32)
theorem kX1_isWeek {R : Room} {s : State} {args : Array Value} {own : String} {idx mc ms : Nat} {rm : Room} (hts : ∀ w ∈ lw_all, w.before args s = true) (hl : Cond.methodLink own idx yX1_isWeek ∈ lw_all) (hrc : rm.cells = mc) (hrs : rm.slots = ms) (hR : rm.frames + 1 ≤ R.frames ∧ 8 + (4 + 11) + rm.locals ≤ R.locals) : CallW R s args own RX1 idx yX1_isWeek cX1_isWeek 4 (some .boolean) (ws_ yX1_isWeek cX1_isWeek 4 (some .boolean)) rm mc ms 1 :=
  cwV 1 hts (lw_V hl q1811 qs45 q107 q1812) rfl hrc hrs (by decide +kernel) hR
set_option maxHeartbeats 4000000 in
set_option maxRecDepth 100000 in
theorem mtX1_isWeek (l : Launch) (D : va_G) (k : Nat → ClassId) (ah : Nat → Nat) (aw : Nat → Nat) (adr : Nat → Nat) (aim : Nat → Nat) (ard : Nat → Nat) (asc : Nat → Nat) (ath : Nat → Nat) (awl : Nat → Nat) (alo : Nat → Nat) (atr : Nat → Nat) (Z : zZ) (hOK : zOK D zCl (zTys k) Z) (sh : Kp) (srd : Rd) (p1 : Int32) (r : Bool) (hrun : fX1_isWeek sh srd p1 = some r) :
    CtR l yX1_isWeek cX1_isWeek 4 (some .boolean) rX1_isWeek Z D zCl ((cH k ah aw adr aim ard asc ath awl alo atr sh) ++ (cR k ard srd)) [.ref (ah 0), .int p1] (some (.int (bz r))) := by
  refine CtR.of (by decide) (Nat.le_of_ble_eq_true rfl) ?_
  intro p e s m args below meth c hE hP hz ls hl
  obtain ⟨hx, hb, hr, hml, hown, hts, hlocks, hname⟩ := hE
  have hown : s.vm.findClass RX1 = some m.cls := hown
  have hK := hOK.1 _ _ _ hz
  have hN := hOK.2.1 _ _ _ hz
  have hl : lv_has ls 4 [(0, .ref (ah 0)), (1, .int p1)] := hl
  unfold fX1_isWeek at hrun
  refine lv_aload_n hx hb dX1_isWeek_0 rfl (lv_at hl 0 rfl) ?_
  refine va_get (ci := 1) (v := .ref (ard 0)) (C := RX1) (T := TX1) (N := 10) hx hb hts in_X1 hown hK hP 0 rfl rfl 4 (by decide) (hts _ q375) (fun _ h9 => h9) rfl dX1_isWeek_1 ?_
  refine lv_astore_n (lv' := [(2, .ref (ard 0)), (0, .ref (ah 0)), (1, .int p1)]) hx hb dX1_isWeek_4 rfl hl (by decide) rfl (fun ls hl => ?_)
  refine lv_iconst (v := (0 : Int32)) hx hb dX1_isWeek_5 (by decide) ?_
  refine lv_istore_n (lv' := [(3, .int (0 : Int32)), (2, .ref (ard 0)), (0, .ref (ah 0)), (1, .int p1)]) hx hb dX1_isWeek_6 rfl hl (by decide) rfl (fun ls hl => ?_)
  have hL_1 : ∀ n : Nat, ∀ (x3_2 : Int32), ∀ ls : Array Slot, lv_has ls 4 [(1, .int p1), (2, .ref (ard 0)), (3, .int x3_2)] → fX1_isWeek_L7 srd p1 n x3_2 = some r → W p l e rX1_isWeek s m args below meth c s.heap [] 0 0 (MQ below (QRr (some (.int (bz r)))) args s 0 0 (fun _ => False)) (F0 m 7 ls []) := by
    intro n
    induction n with
    | zero =>
      intro x3_2 ls hl hrun
      exact nomatch hrun
    | succ n ih =>
      intro x3_2 ls hl hrun
      rw [fX1_isWeek_L7.eq_2] at hrun
      refine lv_iload_n hx hb dX1_isWeek_7 rfl (lv_at hl 2 rfl) ?_
      refine lv_aload_n hx hb dX1_isWeek_8 rfl (lv_at hl 1 rfl) ?_
      refine va_getN (ci := 3) (v := .int (rd_end_ srd)) (C := RX3) (T := TX3) (N := 7) hx hb hts in_X3 hown hK hP 1 rfl rfl 2 (by decide) (va_Nw.use rfl (hN _ (zN_of q264 rfl))) (fun _ h9 => h9) rfl dX1_isWeek_9 ?_
      refine lv_icmp_ge (tgt := 58) hx hb dX1_isWeek_12 (by decide) (fun c_3 => ?_) (fun c_3 => ?_)
      · have hrun := mif_p c_3 hrun
        refine lv_iconst (v := (1 : Int32)) hx hb dX1_isWeek_58 (by decide) ?_
        cases hrun
        exact retR_z (v := true) hx hb hr hlocks rfl dX1_isWeek_59
      have hrun := mif_n c_3 hrun
      refine lv_aload_n hx hb dX1_isWeek_15 rfl (lv_at hl 1 rfl) ?_
      refine va_getN (ci := 3) (v := .ref (ard 1)) (C := RX3) (T := TX3) (N := 7) hx hb hts in_X3 hown hK hP 1 rfl rfl 0 (by decide) (va_Nw.use rfl (hN _ (zN_of q261 rfl))) (fun _ h9 => h9) rfl dX1_isWeek_16 ?_
      refine lv_iload_n hx hb dX1_isWeek_19 rfl (lv_at hl 2 rfl) ?_
      obtain ⟨hb_4, hrun⟩ := mck_s rfl hrun
      refine va_bald hx hb hK hP 2 2 rfl rfl hb_4 dX1_isWeek_20 ?_
      refine lv_iload_n hx hb dX1_isWeek_21 rfl (lv_at hl 0 rfl) ?_
      obtain ⟨K_8, hK_8, hrun⟩ := mjn_s hrun
      have hj_6 : ∀ (y_7 : Bool), ∀ ls : Array Slot, lv_has ls 4 [(1, .int p1), (2, .ref (ard 0)), (3, .int x3_2)] → K_8 y_7 = some r → W p l e rX1_isWeek s m args below meth c s.heap [] 0 0 (MQ below (QRr (some (.int (bz r)))) args s 0 0 (fun _ => False)) (F0 m 30 ls [.int (bz y_7)]) := by
        intro y_7 ls hl hrun
        rw [hK_8] at hrun
        refine lv_aload_n hx hb dX1_isWeek_30 rfl (lv_at hl 1 rfl) ?_
        refine va_getN (ci := 3) (v := .ref (ard 1)) (C := RX3) (T := TX3) (N := 7) hx hb hts in_X3 hown hK hP 1 rfl rfl 0 (by decide) (va_Nw.use rfl (hN _ (zN_of q261 rfl))) (fun _ h9 => h9) rfl dX1_isWeek_31 ?_
        refine lv_iload_n hx hb dX1_isWeek_34 rfl (lv_at hl 2 rfl) ?_
        refine lv_iconst (v := (1 : Int32)) hx hb dX1_isWeek_35 (by decide) ?_
        refine lv_iadd hx hb dX1_isWeek_36 ?_
        obtain ⟨hb_9, hrun⟩ := mck_s rfl hrun
        refine va_bald hx hb hK hP 2 2 rfl rfl hb_9 dX1_isWeek_37 ?_
        refine lv_iconst (v := (1 : Int32)) hx hb dX1_isWeek_38 (by decide) ?_
        obtain ⟨K_13, hK_13, hrun⟩ := mjn_s hrun
        have hj_11 : ∀ (y_12 : Bool), ∀ ls : Array Slot, lv_has ls 4 [(1, .int p1), (2, .ref (ard 0)), (3, .int x3_2)] → K_13 y_12 = some r → W p l e rX1_isWeek s m args below meth c s.heap [] 0 0 (MQ below (QRr (some (.int (bz r)))) args s 0 0 (fun _ => False)) (F0 m 47 ls [.int (bz y_12), .int (bz y_7)]) := by
          intro y_12 ls hl hrun
          rw [hK_13] at hrun
          refine lv_icmp_eq (tgt := 52) hx hb dX1_isWeek_47 (by decide) (fun c_14 => ?_) (fun c_14 => ?_)
          · have hrun := mif_p c_14 hrun
            refine lv_iinc (v := (x3_2 + (2 : Int32))) (lv' := [(3, .int (x3_2 + (2 : Int32))), (1, .int p1), (2, .ref (ard 0))]) hx hb dX1_isWeek_52 hl (k := 2) rfl rfl (by decide) rfl (fun ls hl => ?_)
            refine lv_goto (tgt := 7) hx hb dX1_isWeek_55 (by decide) ?_
            exact ih (x3_2 + (2 : Int32)) ls (lv_sub hl [1, 2, 0] rfl) hrun
          have hrun := mif_n c_14 hrun
          refine lv_iconst (v := (0 : Int32)) hx hb dX1_isWeek_50 (by decide) ?_
          cases hrun
          exact retR_z (v := false) hx hb hr hlocks rfl dX1_isWeek_51
        refine lv_icmp_ne (tgt := 46) hx hb dX1_isWeek_39 (by decide) (fun c_10 => ?_) (fun c_10 => ?_)
        · have hrun := mif_n c_10 hrun
          refine lv_iconst (v := (0 : Int32)) hx hb dX1_isWeek_46 (by decide) ?_
          exact hj_11 false ls (lv_sub hl [0, 1, 2] rfl) hrun
        have hrun := mif_p c_10 hrun
        refine lv_iconst (v := (1 : Int32)) hx hb dX1_isWeek_42 (by decide) ?_
        refine lv_goto (tgt := 47) hx hb dX1_isWeek_43 (by decide) ?_
        exact hj_11 true ls (lv_sub hl [0, 1, 2] rfl) hrun
      refine lv_icmp_lt (tgt := 29) hx hb dX1_isWeek_22 (by decide) (fun c_5 => ?_) (fun c_5 => ?_)
      · have hrun := mif_p c_5 hrun
        refine lv_iconst (v := (0 : Int32)) hx hb dX1_isWeek_29 (by decide) ?_
        exact hj_6 false ls (lv_sub hl [0, 1, 2] rfl) hrun
      have hrun := mif_n c_5 hrun
      refine lv_iconst (v := (1 : Int32)) hx hb dX1_isWeek_25 (by decide) ?_
      refine lv_goto (tgt := 30) hx hb dX1_isWeek_26 (by decide) ?_
      exact hj_6 true ls (lv_sub hl [0, 1, 2] rfl) hrun
  exact hL_1 mFU (0 : Int32) ls (lv_sub hl [3, 1, 0] rfl) hrun
def rX3_cut : Room := { frames := 0, cells := 0, slots := 0, locals := 0 }
noncomputable def fX3_cut (srd : Rd) (p1 : Int32) : Option (Bool × Rd) :=
  if p1 < (0 : Int32) then
    some (false, srd)
  else
    if p1 ≤ (rd_length srd) then
      mlt (rd_s_length srd p1) fun srd_3 =>
      some (true, srd_3)
    else
      some (false, srd)
theorem kX3_cut {R : Room} {s : State} {args : Array Value} {own : String} {idx mc ms : Nat} {rm : Room} (hts : ∀ w ∈ lw_all, w.before args s = true) (hl : Cond.methodLink own idx yX3_cut ∈ lw_all) (hrc : rm.cells = mc) (hrs : rm.slots = ms) (hR : rm.frames + 1 ≤ R.frames ∧ 8 + (2 + 11) + rm.locals ≤ R.locals) : CallW R s args own RX3 idx yX3_cut cX3_cut 2 (some .boolean) (ws_ yX3_cut cX3_cut 2 (some .boolean)) rm mc ms 1 :=
  cwV 1 hts (lw_V hl q415 q416 q109 q417) rfl hrc hrs (by decide +kernel) hR
set_option maxHeartbeats 4000000 in
set_option maxRecDepth 100000 in
theorem mtX3_cut (l : Launch) (D : va_G) (k : Nat → ClassId) (ard : Nat → Nat) (Z : zZ) (hOK : zOK D zCl (zTys k) Z) (srd : Rd) (p1 : Int32) (r : Bool) (ord : Rd) (hrun : fX3_cut srd p1 = some (r, ord)) :
    CtW l yX3_cut cX3_cut 2 (some .boolean) rX3_cut Z D zCl (cR k ard srd) [.ref (ard 0), .int p1] (fun r' w' => r' = (some (.int (bz r))) ∧ w' = (cR k ard ord)) 0 0 := by
  refine CtW.of (by decide) (Nat.le_of_ble_eq_true rfl) ?_
  intro p e s m args below meth c A hE hA hP hD hS hz ls hl
  obtain ⟨hx, hb, hr, hml, hown, hts, hlocks, hname⟩ := hE
  have hown : s.vm.findClass RX3 = some m.cls := hown
  have hK := hOK.1 _ _ _ hz
  have hN := hOK.2.1 _ _ _ hz
  have hl : lv_has ls 2 [(0, .ref (ard 0)), (1, .int p1)] := hl
  unfold fX3_cut at hrun
  refine lv_iload_n hx hb dX3_cut_0 rfl (lv_at hl 1 rfl) ?_
  refine lv_if_lt (tgt := 12) hx hb dX3_cut_1 (by decide) (fun c_1 => ?_) (fun c_1 => ?_)
  · have hrun := mif_p c_1 hrun
    refine lv_iconst (v := (0 : Int32)) hx hb dX3_cut_12 (by decide) ?_
    cases hrun
    exact retW_z (v := false) hx hb hr hlocks hP hD hS ⟨rfl, rfl⟩ dX3_cut_13
  have hrun := mif_n c_1 hrun
  refine lv_iload_n hx hb dX3_cut_4 rfl (lv_at hl 1 rfl) ?_
  refine lv_aload_n hx hb dX3_cut_5 rfl (lv_at hl 0 rfl) ?_
  refine va_get (ci := 3) (v := .int (rd_length srd)) (C := RX3) (T := TX3) (N := 7) hx hb hts in_X3 hown hK hP 0 rfl rfl 1 (by decide) (hts _ q262) (fun _ h9 => h9) rfl dX3_cut_6 ?_
  refine lv_icmp_le (tgt := 14) hx hb dX3_cut_9 (by decide) (fun c_2 => ?_) (fun c_2 => ?_)
  · have hrun := mif_p c_2 hrun
    refine lv_aload_n hx hb dX3_cut_14 rfl (lv_at hl 0 rfl) ?_
    refine lv_iload_n hx hb dX3_cut_15 rfl (lv_at hl 1 rfl) ?_
    refine va_put (ci := 3) (v := .int p1) (ty := tyX3 1) (C := RX3) (T := TX3) (N := 7) hx hb hts in_X3 tyX3 tyX3_ok nmX3 hown hK hP hD hS 0 rfl rfl 1 (by decide) (hts _ q262) (fun _ h9 => h9) rfl (tyX3_ok 1 (by decide)) rfl rfl (Nat.le_of_ble_eq_true rfl) dX3_cut_16 (fun H locs hP hD hS => ?_)
    have hP : va_P D zCl (cR k ard (rd_s_length srd p1)) H := hP
    have hD : va_D A (cR k ard (rd_s_length srd p1)) := hD
    obtain ⟨srd_3, esrd_3⟩ : ∃ z : Rd, z = (rd_s_length srd p1) := ⟨_, rfl⟩
    rw [← esrd_3] at hP hD
    have hrun := mlt_s hrun srd_3 esrd_3
    refine lv_iconst (v := (1 : Int32)) hx hb dX3_cut_19 (by decide) ?_
    cases hrun
    exact retW_z (v := true) hx hb hr hlocks hP hD hS ⟨rfl, rfl⟩ dX3_cut_20
  have hrun := mif_n c_2 hrun
  refine lv_iconst (v := (0 : Int32)) hx hb dX3_cut_12 (by decide) ?_
  cases hrun
  exact retW_z (v := false) hx hb hr hlocks hP hD hS ⟨rfl, rfl⟩ dX3_cut_13
def rX3_begins : Room := { frames := 0, cells := 0, slots := 0, locals := 0 }
noncomputable def fX3_begins (srd : Rd) : Option (Rd) :=
  mlt (rd_s_end_ srd (rd_length srd)) fun srd_1 =>
  mlt (rd_s_length srd_1 (0 : Int32)) fun srd_2 =>
  mlt (rd_s_at_ srd_2 (0 : Int32)) fun srd_3 =>
  mlt (rd_s_deep srd_3 (0 : Int32)) fun srd_4 =>
  some srd_4
theorem kX3_begins {R : Room} {s : State} {args : Array Value} {own : String} {idx mc ms : Nat} {rm : Room} (hts : ∀ w ∈ lw_all, w.before args s = true) (hl : Cond.methodLink own idx yX3_begins ∈ lw_all) (hrc : rm.cells = mc) (hrs : rm.slots = ms) (hR : rm.frames + 1 ≤ R.frames ∧ 8 + (1 + 11) + rm.locals ≤ R.locals) : CallW R s args own RX3 idx yX3_begins cX3_begins 1 none (ws_ yX3_begins cX3_begins 1 none) rm mc ms 0 :=
  cwV 0 hts (lw_V hl q760 q761 q109 q762) rfl hrc hrs (by decide +kernel) hR
set_option maxHeartbeats 4000000 in
set_option maxRecDepth 100000 in
theorem mtX3_begins (l : Launch) (D : va_G) (k : Nat → ClassId) (ard : Nat → Nat) (Z : zZ) (hOK : zOK D zCl (zTys k) Z) (srd : Rd) (ord : Rd) (hrun : fX3_begins srd = some ord) :
    CtW l yX3_begins cX3_begins 1 none rX3_begins Z D zCl (cR k ard srd) [.ref (ard 0)] (fun r' w' => r' = none ∧ w' = (cR k ard ord)) 0 0 := by
  refine CtW.of (by decide) (Nat.le_of_ble_eq_true rfl) ?_
  intro p e s m args below meth c A hE hA hP hD hS hz ls hl
  obtain ⟨hx, hb, hr, hml, hown, hts, hlocks, hname⟩ := hE
  have hown : s.vm.findClass RX3 = some m.cls := hown
  have hK := hOK.1 _ _ _ hz
  have hN := hOK.2.1 _ _ _ hz
  have hl : lv_has ls 1 [(0, .ref (ard 0))] := hl
  unfold fX3_begins at hrun
  refine lv_aload_n hx hb dX3_begins_0 rfl (lv_at hl 0 rfl) ?_
  refine lv_aload_n hx hb dX3_begins_1 rfl (lv_at hl 0 rfl) ?_
  refine va_get (ci := 3) (v := .int (rd_length srd)) (C := RX3) (T := TX3) (N := 7) hx hb hts in_X3 hown hK hP 0 rfl rfl 1 (by decide) (hts _ q262) (fun _ h9 => h9) rfl dX3_begins_2 ?_
  refine va_put (ci := 3) (v := .int (rd_length srd)) (ty := tyX3 2) (C := RX3) (T := TX3) (N := 7) hx hb hts in_X3 tyX3 tyX3_ok nmX3 hown hK hP hD hS 0 rfl rfl 2 (by decide) (hts _ q263) (fun _ h9 => h9) rfl (tyX3_ok 2 (by decide)) rfl rfl (Nat.le_of_ble_eq_true rfl) dX3_begins_5 (fun H locs hP hD hS => ?_)
  have hP : va_P D zCl (cR k ard (rd_s_end_ srd (rd_length srd))) H := hP
  have hD : va_D A (cR k ard (rd_s_end_ srd (rd_length srd))) := hD
  obtain ⟨srd_1, esrd_1⟩ : ∃ z : Rd, z = (rd_s_end_ srd (rd_length srd)) := ⟨_, rfl⟩
  rw [← esrd_1] at hP hD
  have hrun := mlt_s hrun srd_1 esrd_1
  refine lv_aload_n hx hb dX3_begins_8 rfl (lv_at hl 0 rfl) ?_
  refine lv_iconst (v := (0 : Int32)) hx hb dX3_begins_9 (by decide) ?_
  refine va_put (ci := 3) (v := .int (0 : Int32)) (ty := tyX3 1) (C := RX3) (T := TX3) (N := 7) hx hb hts in_X3 tyX3 tyX3_ok nmX3 hown hK hP hD hS 0 rfl rfl 1 (by decide) (hts _ q262) (fun _ h9 => h9) rfl (tyX3_ok 1 (by decide)) rfl rfl (Nat.le_of_ble_eq_true rfl) dX3_begins_10 (fun H locs hP hD hS => ?_)
  have hP : va_P D zCl (cR k ard (rd_s_length srd_1 (0 : Int32))) H := hP
  have hD : va_D A (cR k ard (rd_s_length srd_1 (0 : Int32))) := hD
  obtain ⟨srd_2, esrd_2⟩ : ∃ z : Rd, z = (rd_s_length srd_1 (0 : Int32)) := ⟨_, rfl⟩
  rw [← esrd_2] at hP hD
  have hrun := mlt_s hrun srd_2 esrd_2
  refine lv_aload_n hx hb dX3_begins_13 rfl (lv_at hl 0 rfl) ?_
  refine lv_iconst (v := (0 : Int32)) hx hb dX3_begins_14 (by decide) ?_
  refine va_put (ci := 3) (v := .int (0 : Int32)) (ty := tyX3 3) (C := RX3) (T := TX3) (N := 7) hx hb hts in_X3 tyX3 tyX3_ok nmX3 hown hK hP hD hS 0 rfl rfl 3 (by decide) (hts _ q265) (fun _ h9 => h9) rfl (tyX3_ok 3 (by decide)) rfl rfl (Nat.le_of_ble_eq_true rfl) dX3_begins_15 (fun H locs hP hD hS => ?_)
  have hP : va_P D zCl (cR k ard (rd_s_at_ srd_2 (0 : Int32))) H := hP
  have hD : va_D A (cR k ard (rd_s_at_ srd_2 (0 : Int32))) := hD
  obtain ⟨srd_3, esrd_3⟩ : ∃ z : Rd, z = (rd_s_at_ srd_2 (0 : Int32)) := ⟨_, rfl⟩
  rw [← esrd_3] at hP hD
  have hrun := mlt_s hrun srd_3 esrd_3
  refine lv_aload_n hx hb dX3_begins_18 rfl (lv_at hl 0 rfl) ?_
  refine lv_iconst (v := (0 : Int32)) hx hb dX3_begins_19 (by decide) ?_
  refine va_put (ci := 3) (v := .int (0 : Int32)) (ty := tyX3 6) (C := RX3) (T := TX3) (N := 7) hx hb hts in_X3 tyX3 tyX3_ok nmX3 hown hK hP hD hS 0 rfl rfl 6 (by decide) (hts _ q270) (fun _ h9 => h9) rfl (tyX3_ok 6 (by decide)) rfl rfl (Nat.le_of_ble_eq_true rfl) dX3_begins_20 (fun H locs hP hD hS => ?_)
  have hP : va_P D zCl (cR k ard (rd_s_deep srd_3 (0 : Int32))) H := hP
  have hD : va_D A (cR k ard (rd_s_deep srd_3 (0 : Int32))) := hD
  obtain ⟨srd_4, esrd_4⟩ : ∃ z : Rd, z = (rd_s_deep srd_3 (0 : Int32)) := ⟨_, rfl⟩
  rw [← esrd_4] at hP hD
  have hrun := mlt_s hrun srd_4 esrd_4
  cases hrun
  exact retW_v hx hb hr hlocks hP hD hS ⟨rfl, rfl⟩ dX3_begins_23
def rX3_byteAt : Room := { frames := 0, cells := 0, slots := 0, locals := 0 }
noncomputable def fX3_byteAt (srd : Rd) (p1 : Int32) : Option (Int32) :=
  if (rd_end_ srd) ≤ p1 then
    some (-1 : Int32)
  else
    mck p1 400 <|
    some ((rd_tape srd) (Int32.toNatClampNeg p1))
theorem kX3_byteAt {R : Room} {s : State} {args : Array Value} {own : String} {idx mc ms : Nat} {rm : Room} (hts : ∀ w ∈ lw_all, w.before args s = true) (hl : Cond.methodLink own idx yX3_byteAt ∈ lw_all) (hrc : rm.cells = mc) (hrs : rm.slots = ms) (hR : rm.frames + 1 ≤ R.frames ∧ 8 + (2 + 11) + rm.locals ≤ R.locals) : CallW R s args own RX3 idx yX3_byteAt cX3_byteAt 2 (some .int) (ws_ yX3_byteAt cX3_byteAt 2 (some .int)) rm mc ms 1 :=
  cwV 1 hts (lw_V hl q777 qs13 q109 q778) rfl hrc hrs (by decide +kernel) hR
set_option maxHeartbeats 4000000 in
set_option maxRecDepth 100000 in
theorem mtX3_byteAt (l : Launch) (D : va_G) (k : Nat → ClassId) (ard : Nat → Nat) (Z : zZ) (hOK : zOK D zCl (zTys k) Z) (srd : Rd) (p1 : Int32) (r : Int32) (hrun : fX3_byteAt srd p1 = some r) :
    CtR l yX3_byteAt cX3_byteAt 2 (some .int) rX3_byteAt Z D zCl (cR k ard srd) [.ref (ard 0), .int p1] (some (.int r)) := by
  refine CtR.of (by decide) (Nat.le_of_ble_eq_true rfl) ?_
  intro p e s m args below meth c hE hP hz ls hl
  obtain ⟨hx, hb, hr, hml, hown, hts, hlocks, hname⟩ := hE
  have hown : s.vm.findClass RX3 = some m.cls := hown
  have hK := hOK.1 _ _ _ hz
  have hN := hOK.2.1 _ _ _ hz
  have hl : lv_has ls 2 [(0, .ref (ard 0)), (1, .int p1)] := hl
  unfold fX3_byteAt at hrun
  refine lv_iload_n hx hb dX3_byteAt_0 rfl (lv_at hl 1 rfl) ?_
  refine lv_aload_n hx hb dX3_byteAt_1 rfl (lv_at hl 0 rfl) ?_
  refine va_get (ci := 3) (v := .int (rd_end_ srd)) (C := RX3) (T := TX3) (N := 7) hx hb hts in_X3 hown hK hP 0 rfl rfl 2 (by decide) (hts _ q263) (fun _ h9 => h9) rfl dX3_byteAt_2 ?_
  refine lv_icmp_ge (tgt := 17) hx hb dX3_byteAt_5 (by decide) (fun c_1 => ?_) (fun c_1 => ?_)
  · have hrun := mif_p c_1 hrun
    refine lv_iconst (v := (-1 : Int32)) hx hb dX3_byteAt_17 (by decide) ?_
    cases hrun
    exact retR_i hx hb hr hlocks rfl dX3_byteAt_18
  have hrun := mif_n c_1 hrun
  refine lv_aload_n hx hb dX3_byteAt_8 rfl (lv_at hl 0 rfl) ?_
  refine va_get (ci := 3) (v := .ref (ard 1)) (C := RX3) (T := TX3) (N := 7) hx hb hts in_X3 hown hK hP 0 rfl rfl 0 (by decide) (hts _ q260) (fun _ h9 => h9) rfl dX3_byteAt_9 ?_
  refine lv_iload_n hx hb dX3_byteAt_12 rfl (lv_at hl 1 rfl) ?_
  obtain ⟨hb_2, hrun⟩ := mck_s rfl hrun
  refine va_bald hx hb hK hP 1 2 rfl rfl hb_2 dX3_byteAt_13 ?_
  refine lv_goto (tgt := 18) hx hb dX3_byteAt_14 (by decide) ?_
  cases hrun
  exact retR_i hx hb hr hlocks rfl dX3_byteAt_18
