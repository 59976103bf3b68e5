/-! walks: X6_odds, X6_send, X6_sent, X6_quiet, X6_best -/
def rX6_odds : Room := { frames := 5, cells := 0, slots := 0, locals := 112 }
noncomputable def fX6_odds (t : Tw) : Option (Int32 × Tw) :=
  mlt (tw_s_thrown t (0 : Int32)) fun t_1 =>
  mob (fX6_watchers t_1 ((tw_m t_1) 4)) fun r_3 =>
  mob (fX6_oddsOf t_1 r_3) fun r_5 =>
  some (r_5, t_1)
theorem kX6_odds {R : Room} {s : State} {args : Array Value} {own : String} {idx mc ms : Nat} {rm : Room} (hts : ∀ w ∈ lw_all, w.before args s = true) (hl : Cond.methodLink own idx yX6_odds ∈ lw_all) (hrc : rm.cells = mc) (hrs : rm.slots = ms) (hR : rm.frames + 1 ≤ R.frames ∧ 8 + (1 + 11) + rm.locals ≤ R.locals) : CallW R s args own RX6 idx yX6_odds cX6_odds 1 (some .int) (ws_ yX6_odds cX6_odds 1 (some .int)) rm mc ms 0 :=
  cwV 0 hts (lw_V hl q2305 q2306 q115 q2307) rfl hrc hrs (by decide +kernel) hR
set_option maxHeartbeats 4000000 in
set_option maxRecDepth 100000 in
theorem mtX6_odds (l : Launch) (D : va_G) (k : Nat → ClassId) (a : Nat → Nat) (Z : zZ) (hOK : zOK D zCl (zTys k) Z) (t : Tw) (r : Int32) (tt : Tw) (hrun : fX6_odds t = some (r, tt)) :
    CtW l yX6_odds cX6_odds 1 (some .int) rX6_odds Z D zCl (cT k a t) [.ref (a 0)] (fun r' w' => r' = (some (.int r)) ∧ w' = cT k a tt) 0 0 := by
  refine CtW.of (by decide) (Nat.le_of_ble_eq_true rfl) ?_
  intro p e s m args below meth c A hE hA hP hD hS hz ls hl
  obtain ⟨hx, hb, hr, hml, hown, hts, hlocks, hname⟩ := hE
  have hown : s.vm.findClass RX6 = some m.cls := hown
  have hK := hOK.1 _ _ _ hz
  have hl : lv_has ls 1 [(0, .ref (a 0))] := hl
  unfold fX6_odds at hrun
  refine lv_aload_n hx hb dX6_odds_0 rfl (lv_at hl 0 rfl) ?_
  refine lv_iconst (v := (0 : Int32)) hx hb dX6_odds_1 (by decide) ?_
  refine va_put (ci := 0) (v := .int (0 : Int32)) (ty := tyX6 0) (C := RX6) (T := TX6) (N := 22) hx hb hts in_X6 tyX6 tyX6_ok nmX6 hown hK hP hD hS 0 rfl rfl 0 (by decide) (hts _ q1902) (fun _ h9 => h9) rfl (tyX6_ok 0 (by decide)) rfl rfl (Nat.le_of_ble_eq_true rfl) dX6_odds_2 (fun H locs hP hD hS => ?_)
  have hP : va_P D zCl (cT k a (tw_s_thrown t (0 : Int32))) H := hP
  have hD : va_D A (cT k a (tw_s_thrown t (0 : Int32))) := hD
  obtain ⟨t_1, et_1⟩ : ∃ z : Tw, z = (tw_s_thrown t (0 : Int32)) := ⟨_, rfl⟩
  rw [← et_1] at hP hD
  have hrun := mlt_s hrun t_1 et_1
  refine lv_aload_n hx hb dX6_odds_5 rfl (lv_at hl 0 rfl) ?_
  refine lv_aload_n hx hb dX6_odds_6 rfl (lv_at hl 0 rfl) ?_
  refine lv_aload_n hx hb dX6_odds_7 rfl (lv_at hl 0 rfl) ?_
  refine va_get (ci := 0) (v := .ref (a 1)) (C := RX6) (T := TX6) (N := 22) hx hb hts in_X6 hown hK hP 0 rfl rfl 1 (by decide) (hts _ q1903) (fun _ h9 => h9) rfl dX6_odds_8 ?_
  refine lv_iconst (v := (4 : Int32)) hx hb dX6_odds_11 (by decide) ?_
  refine va_ialdk (k := 4) hx hb hK hP 1 0 rfl rfl rfl (show ¬ _ from by decide) dX6_odds_12 ?_
  obtain ⟨r_3, hc_2, hrun⟩ := mob_s rfl hrun
  refine cRV (As := [.int ((tw_m t_1) 4)]) (ci := 0) ⟨hx, hb, hml, hown, hts⟩ hOK hz hS hP (mtX6_watchers l D k a Z hOK _ _ _ hc_2) (kX6_watchers hts q2193 rfl rfl ⟨Nat.le_of_ble_eq_true rfl, Nat.le_of_ble_eq_true rfl⟩) 0 rfl rfl rfl hl.1 rfl (lv_room (Nat.le_of_ble_eq_true rfl)) ⟨Nat.le_of_ble_eq_true rfl, Nat.le_of_ble_eq_true rfl⟩ dX6_odds_13 ?_
  obtain ⟨r_5, hc_4, hrun⟩ := mob_s rfl hrun
  refine cRV (As := [.int r_3]) (ci := 0) ⟨hx, hb, hml, hown, hts⟩ hOK hz hS hP (mtX6_oddsOf l D k a Z hOK _ _ _ hc_4) (kX6_oddsOf hts q2308 rfl rfl ⟨Nat.le_of_ble_eq_true rfl, Nat.le_of_ble_eq_true rfl⟩) 0 rfl rfl rfl hl.1 rfl (lv_room (Nat.le_of_ble_eq_true rfl)) ⟨Nat.le_of_ble_eq_true rfl, Nat.le_of_ble_eq_true rfl⟩ dX6_odds_16 ?_
  cases hrun
  exact retW_i hx hb hr hlocks hP hD hS ⟨rfl, rfl⟩ dX6_odds_19
def rX6_send : Room := { frames := 5, cells := 0, slots := 0, locals := 112 }
noncomputable def fX6_send (t : Tw) : Option (Int32 × Tw) :=
  mlt (tw_s_thrown t (0 : Int32)) fun t_1 =>
  mob (fX6_watchers t_1 ((tw_m t_1) 4)) fun r_3 =>
  some (r_3, t_1)
theorem kX6_send {R : Room} {s : State} {args : Array Value} {own : String} {idx mc ms : Nat} {rm : Room} (hts : ∀ w ∈ lw_all, w.before args s = true) (hl : Cond.methodLink own idx yX6_send ∈ lw_all) (hrc : rm.cells = mc) (hrs : rm.slots = ms) (hR : rm.frames + 1 ≤ R.frames ∧ 8 + (1 + 11) + rm.locals ≤ R.locals) : CallW R s args own RX6 idx yX6_send cX6_send 1 (some .int) (ws_ yX6_send cX6_send 1 (some .int)) rm mc ms 0 :=
  cwV 0 hts (lw_V hl q2315 q2316 q115 q2317) rfl hrc hrs (by decide +kernel) hR
set_option maxHeartbeats 4000000 in
set_option maxRecDepth 100000 in
theorem mtX6_send (l : Launch) (D : va_G) (k : Nat → ClassId) (a : Nat → Nat) (Z : zZ) (hOK : zOK D zCl (zTys k) Z) (t : Tw) (r : Int32) (tt : Tw) (hrun : fX6_send t = some (r, tt)) :
    CtW l yX6_send cX6_send 1 (some .int) rX6_send Z D zCl (cT k a t) [.ref (a 0)] (fun r' w' => r' = (some (.int r)) ∧ w' = cT k a tt) 0 0 := by
  refine CtW.of (by decide) (Nat.le_of_ble_eq_true rfl) ?_
  intro p e s m args below meth c A hE hA hP hD hS hz ls hl
  obtain ⟨hx, hb, hr, hml, hown, hts, hlocks, hname⟩ := hE
  have hown : s.vm.findClass RX6 = some m.cls := hown
  have hK := hOK.1 _ _ _ hz
  have hl : lv_has ls 1 [(0, .ref (a 0))] := hl
  unfold fX6_send at hrun
  refine lv_aload_n hx hb dX6_send_0 rfl (lv_at hl 0 rfl) ?_
  refine lv_iconst (v := (0 : Int32)) hx hb dX6_send_1 (by decide) ?_
  refine va_put (ci := 0) (v := .int (0 : Int32)) (ty := tyX6 0) (C := RX6) (T := TX6) (N := 22) hx hb hts in_X6 tyX6 tyX6_ok nmX6 hown hK hP hD hS 0 rfl rfl 0 (by decide) (hts _ q1902) (fun _ h9 => h9) rfl (tyX6_ok 0 (by decide)) rfl rfl (Nat.le_of_ble_eq_true rfl) dX6_send_2 (fun H locs hP hD hS => ?_)
  have hP : va_P D zCl (cT k a (tw_s_thrown t (0 : Int32))) H := hP
  have hD : va_D A (cT k a (tw_s_thrown t (0 : Int32))) := hD
  obtain ⟨t_1, et_1⟩ : ∃ z : Tw, z = (tw_s_thrown t (0 : Int32)) := ⟨_, rfl⟩
  rw [← et_1] at hP hD
  have hrun := mlt_s hrun t_1 et_1
  refine lv_aload_n hx hb dX6_send_5 rfl (lv_at hl 0 rfl) ?_
  refine lv_aload_n hx hb dX6_send_6 rfl (lv_at hl 0 rfl) ?_
  refine va_get (ci := 0) (v := .ref (a 1)) (C := RX6) (T := TX6) (N := 22) hx hb hts in_X6 hown hK hP 0 rfl rfl 1 (by decide) (hts _ q1903) (fun _ h9 => h9) rfl dX6_send_7 ?_
  refine lv_iconst (v := (4 : Int32)) hx hb dX6_send_10 (by decide) ?_
  refine va_ialdk (k := 4) hx hb hK hP 1 0 rfl rfl rfl (show ¬ _ from by decide) dX6_send_11 ?_
  obtain ⟨r_3, hc_2, hrun⟩ := mob_s rfl hrun
  refine cRV (As := [.int ((tw_m t_1) 4)]) (ci := 0) ⟨hx, hb, hml, hown, hts⟩ hOK hz hS hP (mtX6_watchers l D k a Z hOK _ _ _ hc_2) (kX6_watchers hts q2193 rfl rfl ⟨Nat.le_of_ble_eq_true rfl, Nat.le_of_ble_eq_true rfl⟩) 0 rfl rfl rfl hl.1 rfl (lv_room (Nat.le_of_ble_eq_true rfl)) ⟨Nat.le_of_ble_eq_true rfl, Nat.le_of_ble_eq_true rfl⟩ dX6_send_12 ?_
  cases hrun
  exact retW_i hx hb hr hlocks hP hD hS ⟨rfl, rfl⟩ dX6_send_15
def rX6_sent : Room := { frames := 5, cells := 0, slots := 0, locals := 112 }
noncomputable def fX6_sent_L85 (t_7 : Tw) (K_21 : Bool → Option (Int32 × Tw)) (x4_13 : Int32) : Nat → Bool → Int32 → Option (Int32 × Tw)
  | 0, _, _ => none
  | n + 1, x5_27, x6_28 =>
    if ((tw_m t_7) 3) ≤ x6_28 then
      K_21 x5_27
    else
      if x5_27 = true then
        mob (fX6_isOf x4_13 x6_28) fun r_32 =>
        if r_32 = true then
          mob (fX6_isHere t_7 x6_28) fun r_35 =>
          if r_35 = true then
            fX6_sent_L85 t_7 K_21 x4_13 n true (x6_28 + (1 : Int32))
          else
            fX6_sent_L85 t_7 K_21 x4_13 n false (x6_28 + (1 : Int32))
        else
          fX6_sent_L85 t_7 K_21 x4_13 n true (x6_28 + (1 : Int32))
      else
        K_21 x5_27
noncomputable def fX6_sent_L45 (t_7 : Tw) (r_10 : Int32) (p1 : Int32) : Nat → Int32 → Int32 → Option (Int32 × Tw)
  | 0, _, _ => none
  | n + 1, x3_12, x4_13 =>
    if ((1 : Int32) <<< (((tw_m t_7) 3) &&& (31 : Int32))) ≤ x4_13 then
      some (x3_12, t_7)
    else
      mjn (fun (y_17 : Bool) =>
      mjn (fun (x5_20 : Bool) =>
      if x5_20 = true then
        mob (fX6_oddsOf t_7 (r_10 &&& (x4_13 ^^^ (-1 : Int32)))) fun r_24 =>
        if p1 < r_24 then
          fX6_sent_L45 t_7 r_10 p1 n x3_12 (x4_13 + (1 : Int32))
        else
          fX6_sent_L45 t_7 r_10 p1 n x4_13 (x4_13 + (1 : Int32))
      else
        fX6_sent_L45 t_7 r_10 p1 n x3_12 (x4_13 + (1 : Int32))) fun K_21 =>
      fX6_sent_L85 t_7 K_21 x4_13 mFU y_17 (0 : Int32)) fun K_18 =>
      if x3_12 = (-1 : Int32) then
        K_18 true
      else
        mob (fX6_bits x4_13) fun r_39 =>
        mob (fX6_bits x3_12) fun r_41 =>
        if r_41 ≤ r_39 then
          K_18 false
        else
          K_18 true
noncomputable def fX6_sent (t : Tw) (p1 : Int32) : Option (Int32 × Tw) :=
  mob (fX6_isIn p1 (0 : Int32) (9999 : Int32)) fun r_2 =>
  mjn (fun (y_5 : Bool) =>
  mlt (tw_s_thrown t (bz y_5)) fun t_7 =>
  if (tw_thrown t_7) ≤ (0 : Int32) then
    mob (fX6_watchers t_7 ((tw_m t_7) 4)) fun r_10 =>
    fX6_sent_L45 t_7 r_10 p1 mFU (-1 : Int32) (0 : Int32)
  else
    some ((0 : Int32), t_7)) fun K_6 =>
  if r_2 = true then
    K_6 false
  else
    K_6 true
theorem kX6_sent {R : Room} {s : State} {args : Array Value} {own : String} {idx mc ms : Nat} {rm : Room} (hts : ∀ w ∈ lw_all, w.before args s = true) (hl : Cond.methodLink own idx yX6_sent ∈ lw_all) (hrc : rm.cells = mc) (hrs : rm.slots = ms) (hR : rm.frames + 1 ≤ R.frames ∧ 8 + (7 + 11) + rm.locals ≤ R.locals) : CallW R s args own RX6 idx yX6_sent cX6_sent 7 (some .int) (ws_ yX6_sent cX6_sent 7 (some .int)) rm mc ms 1 :=
  cwV 1 hts (lw_V hl q2319 q2320 q115 q2321) rfl hrc hrs (by decide +kernel) hR
set_option maxHeartbeats 4000000 in
set_option maxRecDepth 100000 in
theorem mtX6_sent (l : Launch) (D : va_G) (k : Nat → ClassId) (a : Nat → Nat) (Z : zZ) (hOK : zOK D zCl (zTys k) Z) (t : Tw) (p1 : Int32) (r : Int32) (tt : Tw) (hrun : fX6_sent t p1 = some (r, tt)) :
    CtW l yX6_sent cX6_sent 7 (some .int) rX6_sent Z D zCl (cT k a t) [.ref (a 0), .int p1] (fun r' w' => r' = (some (.int r)) ∧ w' = cT k a tt) 0 0 := by
  refine CtW.of (by decide) (Nat.le_of_ble_eq_true rfl) ?_
  intro p e s m args below meth c A hE hA hP hD hS hz ls hl
  obtain ⟨hx, hb, hr, hml, hown, hts, hlocks, hname⟩ := hE
  have hown : s.vm.findClass RX6 = some m.cls := hown
  have hK := hOK.1 _ _ _ hz
  have hl : lv_has ls 7 [(0, .ref (a 0)), (1, .int p1)] := hl
  unfold fX6_sent at hrun
  refine lv_aload_n hx hb dX6_sent_0 rfl (lv_at hl 0 rfl) ?_
  refine lv_iload_n hx hb dX6_sent_1 rfl (lv_at hl 1 rfl) ?_
  refine lv_iconst (v := (0 : Int32)) hx hb dX6_sent_2 (by decide) ?_
  refine lv_sipush (v := (9999 : Int32)) hx hb dX6_sent_3 (by decide) ?_
  obtain ⟨r_2, hc_1, hrun⟩ := mob_s rfl hrun
  refine cRS (ws := []) (As := [.int p1, .int (0 : Int32), .int (9999 : Int32)]) ⟨hx, hb, hml, hown, hts⟩ hOK hz hS zP0 (mtX6_isIn l D Z hOK _ _ _ _ hc_1) (kX6_isIn hts q1981 rfl rfl ⟨Nat.le_of_ble_eq_true rfl, Nat.le_of_ble_eq_true rfl⟩) rfl hl.1 rfl (lv_room (Nat.le_of_ble_eq_true rfl)) ⟨Nat.le_of_ble_eq_true rfl, Nat.le_of_ble_eq_true rfl⟩ dX6_sent_6 ?_
  obtain ⟨K_6, hK_6, hrun⟩ := mjn_s hrun
  have hj_4 : ∀ (y_5 : Bool), ∀ (H : Heap) (locs : List Loc), va_P D zCl (cT k a t) H → va_D A (cT k a t) → va_S A s.heap H locs → ∀ ls : Array Slot, lv_has ls 7 [(0, .ref (a 0)), (1, .int p1)] → K_6 y_5 = some (r, tt) → W p l e rX6_sent s m args below meth c H locs 0 0 (MQ below (QWr (fun r' w' => r' = (some (.int r)) ∧ w' = cT k a tt) D zCl A) args s 0 0 A) (F0 m 17 ls [.int (bz y_5), .ref (a 0)]) := by
    intro y_5 H locs hP hD hS ls hl hrun
    rw [hK_6] at hrun
    refine va_put (ci := 0) (v := .int (bz y_5)) (ty := tyX6 0) (C := RX6) (T := TX6) (N := 22) hx hb hts in_X6 tyX6 tyX6_ok nmX6 hown hK hP hD hS 0 rfl rfl 0 (by decide) (hts _ q1902) (fun _ h9 => h9) rfl (tyX6_ok 0 (by decide)) rfl rfl (Nat.le_of_ble_eq_true rfl) dX6_sent_17 (fun H locs hP hD hS => ?_)
    have hP : va_P D zCl (cT k a (tw_s_thrown t (bz y_5))) H := hP
    have hD : va_D A (cT k a (tw_s_thrown t (bz y_5))) := hD
    obtain ⟨t_7, et_7⟩ : ∃ z : Tw, z = (tw_s_thrown t (bz y_5)) := ⟨_, rfl⟩
    rw [← et_7] at hP hD
    have hrun := mlt_s hrun t_7 et_7
    refine lv_aload_n hx hb dX6_sent_20 rfl (lv_at hl 0 rfl) ?_
    refine va_get (ci := 0) (v := .int (tw_thrown t_7)) (C := RX6) (T := TX6) (N := 22) hx hb hts in_X6 hown hK hP 0 rfl rfl 0 (by decide) (hts _ q1902) (fun _ h9 => h9) rfl dX6_sent_21 ?_
    refine lv_if_le (tgt := 29) hx hb dX6_sent_24 (by decide) (fun c_8 => ?_) (fun c_8 => ?_)
    · have hrun := mif_p c_8 hrun
      refine lv_aload_n hx hb dX6_sent_29 rfl (lv_at hl 0 rfl) ?_
      refine lv_aload_n hx hb dX6_sent_30 rfl (lv_at hl 0 rfl) ?_
      refine va_get (ci := 0) (v := .ref (a 1)) (C := RX6) (T := TX6) (N := 22) hx hb hts in_X6 hown hK hP 0 rfl rfl 1 (by decide) (hts _ q1903) (fun _ h9 => h9) rfl dX6_sent_31 ?_
      refine lv_iconst (v := (4 : Int32)) hx hb dX6_sent_34 (by decide) ?_
      refine va_ialdk (k := 4) hx hb hK hP 1 0 rfl rfl rfl (show ¬ _ from by decide) dX6_sent_35 ?_
      obtain ⟨r_10, hc_9, hrun⟩ := mob_s rfl hrun
      refine cRV (As := [.int ((tw_m t_7) 4)]) (ci := 0) ⟨hx, hb, hml, hown, hts⟩ hOK hz hS hP (mtX6_watchers l D k a Z hOK _ _ _ hc_9) (kX6_watchers hts q2193 rfl rfl ⟨Nat.le_of_ble_eq_true rfl, Nat.le_of_ble_eq_true rfl⟩) 0 rfl rfl rfl hl.1 rfl (lv_room (Nat.le_of_ble_eq_true rfl)) ⟨Nat.le_of_ble_eq_true rfl, Nat.le_of_ble_eq_true rfl⟩ dX6_sent_36 ?_
      refine lv_istore_n (lv' := [(2, .int r_10), (0, .ref (a 0)), (1, .int p1)]) hx hb dX6_sent_39 rfl hl (by decide) rfl (fun ls hl => ?_)
      refine lv_iconst (v := (-1 : Int32)) hx hb dX6_sent_40 (by decide) ?_
      refine lv_istore_n (lv' := [(3, .int (-1 : Int32)), (2, .int r_10), (0, .ref (a 0)), (1, .int p1)]) hx hb dX6_sent_41 rfl hl (by decide) rfl (fun ls hl => ?_)
      refine lv_iconst (v := (0 : Int32)) hx hb dX6_sent_42 (by decide) ?_
      refine lv_istore (lv' := [(4, .int (0 : Int32)), (3, .int (-1 : Int32)), (2, .int r_10), (0, .ref (a 0)), (1, .int p1)]) hx hb dX6_sent_43 hl (by decide) rfl (fun ls hl => ?_)
      have hL_11 : ∀ n : Nat, ∀ (x3_12 : Int32) (x4_13 : Int32), ∀ (H : Heap) (locs : List Loc), va_P D zCl (cT k a t_7) H → va_D A (cT k a t_7) → va_S A s.heap H locs → ∀ ls : Array Slot, lv_has ls 7 [(0, .ref (a 0)), (1, .int p1), (2, .int r_10), (3, .int x3_12), (4, .int x4_13)] → fX6_sent_L45 t_7 r_10 p1 n x3_12 x4_13 = some (r, tt) → W p l e rX6_sent s m args below meth c H locs 0 0 (MQ below (QWr (fun r' w' => r' = (some (.int r)) ∧ w' = cT k a tt) D zCl A) args s 0 0 A) (F0 m 45 ls []) := by
        intro n
        induction n with
        | zero =>
          intro x3_12 x4_13 H locs hP hD hS ls hl hrun
          exact nomatch hrun
        | succ n ih =>
          intro x3_12 x4_13 H locs hP hD hS ls hl hrun
          rw [fX6_sent_L45.eq_2] at hrun
          refine lv_iload hx hb dX6_sent_45 (lv_at hl 4 rfl) ?_
          refine lv_iconst (v := (1 : Int32)) hx hb dX6_sent_47 (by decide) ?_
          refine lv_aload_n hx hb dX6_sent_48 rfl (lv_at hl 0 rfl) ?_
          refine va_get (ci := 0) (v := .ref (a 1)) (C := RX6) (T := TX6) (N := 22) hx hb hts in_X6 hown hK hP 0 rfl rfl 1 (by decide) (hts _ q1903) (fun _ h9 => h9) rfl dX6_sent_49 ?_
          refine lv_iconst (v := (3 : Int32)) hx hb dX6_sent_52 (by decide) ?_
          refine va_ialdk (k := 3) hx hb hK hP 1 0 rfl rfl rfl (show ¬ _ from by decide) dX6_sent_53 ?_
          refine lv_ishl hx hb dX6_sent_54 ?_
          refine lv_icmp_ge (tgt := 161) hx hb dX6_sent_55 (by decide) (fun c_14 => ?_) (fun c_14 => ?_)
          · have hrun := mif_p c_14 hrun
            refine lv_iload_n hx hb dX6_sent_161 rfl (lv_at hl 3 rfl) ?_
            cases hrun
            exact retW_i hx hb hr hlocks hP hD hS ⟨rfl, rfl⟩ dX6_sent_162
          have hrun := mif_n c_14 hrun
          refine lv_iload_n hx hb dX6_sent_58 rfl (lv_at hl 3 rfl) ?_
          refine lv_iconst (v := (-1 : Int32)) hx hb dX6_sent_59 (by decide) ?_
          obtain ⟨K_18, hK_18, hrun⟩ := mjn_s hrun
          have hj_16 : ∀ (y_17 : Bool), ∀ (H : Heap) (locs : List Loc), va_P D zCl (cT k a t_7) H → va_D A (cT k a t_7) → va_S A s.heap H locs → ∀ ls : Array Slot, lv_has ls 7 [(0, .ref (a 0)), (1, .int p1), (2, .int r_10), (3, .int x3_12), (4, .int x4_13)] → K_18 y_17 = some (r, tt) → W p l e rX6_sent s m args below meth c H locs 0 0 (MQ below (QWr (fun r' w' => r' = (some (.int r)) ∧ w' = cT k a tt) D zCl A) args s 0 0 A) (F0 m 80 ls [.int (bz y_17)]) := by
            intro y_17 H locs hP hD hS ls hl hrun
            rw [hK_18] at hrun
            refine lv_istore (lv' := [(5, .int (bz y_17)), (0, .ref (a 0)), (1, .int p1), (2, .int r_10), (3, .int x3_12), (4, .int x4_13)]) hx hb dX6_sent_80 hl (by decide) rfl (fun ls hl => ?_)
            refine lv_iconst (v := (0 : Int32)) hx hb dX6_sent_82 (by decide) ?_
            refine lv_istore (lv' := [(6, .int (0 : Int32)), (5, .int (bz y_17)), (0, .ref (a 0)), (1, .int p1), (2, .int r_10), (3, .int x3_12), (4, .int x4_13)]) hx hb dX6_sent_83 hl (by decide) rfl (fun ls hl => ?_)
            obtain ⟨K_21, hK_21, hrun⟩ := mjn_s hrun
            have hj_19 : ∀ (x5_20 : Bool), ∀ (H : Heap) (locs : List Loc), va_P D zCl (cT k a t_7) H → va_D A (cT k a t_7) → va_S A s.heap H locs → ∀ ls : Array Slot, lv_has ls 7 [(0, .ref (a 0)), (1, .int p1), (2, .int r_10), (3, .int x3_12), (4, .int x4_13), (5, .int (bz x5_20))] → K_21 x5_20 = some (r, tt) → W p l e rX6_sent s m args below meth c H locs 0 0 (MQ below (QWr (fun r' w' => r' = (some (.int r)) ∧ w' = cT k a tt) D zCl A) args s 0 0 A) (F0 m 133 ls []) := by
              intro x5_20 H locs hP hD hS ls hl hrun
              rw [hK_21] at hrun
              refine lv_iload hx hb dX6_sent_133 (lv_at hl 5 rfl) ?_
              refine lv_if_eq (tgt := 155) hx hb dX6_sent_135 (by decide) (fun c_22 => ?_) (fun c_22 => ?_)
              · have hrun := mif_n (bz_z c_22) hrun
                refine lv_iinc (v := (x4_13 + (1 : Int32))) (lv' := [(4, .int (x4_13 + (1 : Int32))), (0, .ref (a 0)), (1, .int p1), (2, .int r_10), (3, .int x3_12), (5, .int (bz x5_20))]) hx hb dX6_sent_155 hl (k := 4) rfl rfl (by decide) rfl (fun ls hl => ?_)
                refine lv_goto (tgt := 45) hx hb dX6_sent_158 (by decide) ?_
                exact ih x3_12 (x4_13 + (1 : Int32)) _ _ hP hD hS ls (lv_sub hl [1, 2, 3, 4, 0] rfl) hrun
              have hrun := mif_p (bz_nz c_22) hrun
              refine lv_aload_n hx hb dX6_sent_138 rfl (lv_at hl 0 rfl) ?_
              refine lv_iload_n hx hb dX6_sent_139 rfl (lv_at hl 2 rfl) ?_
              refine lv_iload hx hb dX6_sent_140 (lv_at hl 4 rfl) ?_
              refine lv_iconst (v := (-1 : Int32)) hx hb dX6_sent_142 (by decide) ?_
              refine lv_ixor hx hb dX6_sent_143 ?_
              refine lv_iand hx hb dX6_sent_144 ?_
              obtain ⟨r_24, hc_23, hrun⟩ := mob_s rfl hrun
              refine cRV (As := [.int (r_10 &&& (x4_13 ^^^ (-1 : Int32)))]) (ci := 0) ⟨hx, hb, hml, hown, hts⟩ hOK hz hS hP (mtX6_oddsOf l D k a Z hOK _ _ _ hc_23) (kX6_oddsOf hts q2308 rfl rfl ⟨Nat.le_of_ble_eq_true rfl, Nat.le_of_ble_eq_true rfl⟩) 0 rfl rfl rfl hl.1 rfl (lv_room (Nat.le_of_ble_eq_true rfl)) ⟨Nat.le_of_ble_eq_true rfl, Nat.le_of_ble_eq_true rfl⟩ dX6_sent_145 ?_
              refine lv_iload_n hx hb dX6_sent_148 rfl (lv_at hl 1 rfl) ?_
              refine lv_icmp_gt (tgt := 155) hx hb dX6_sent_149 (by decide) (fun c_25 => ?_) (fun c_25 => ?_)
              · have hrun := mif_p c_25 hrun
                refine lv_iinc (v := (x4_13 + (1 : Int32))) (lv' := [(4, .int (x4_13 + (1 : Int32))), (0, .ref (a 0)), (1, .int p1), (2, .int r_10), (3, .int x3_12), (5, .int (bz x5_20))]) hx hb dX6_sent_155 hl (k := 4) rfl rfl (by decide) rfl (fun ls hl => ?_)
                refine lv_goto (tgt := 45) hx hb dX6_sent_158 (by decide) ?_
                exact ih x3_12 (x4_13 + (1 : Int32)) _ _ hP hD hS ls (lv_sub hl [1, 2, 3, 4, 0] rfl) hrun
              have hrun := mif_n c_25 hrun
              refine lv_iload hx hb dX6_sent_152 (lv_at hl 4 rfl) ?_
              refine lv_istore_n (lv' := [(3, .int x4_13), (0, .ref (a 0)), (1, .int p1), (2, .int r_10), (4, .int x4_13), (5, .int (bz x5_20))]) hx hb dX6_sent_154 rfl hl (by decide) rfl (fun ls hl => ?_)
              refine lv_iinc (v := (x4_13 + (1 : Int32))) (lv' := [(4, .int (x4_13 + (1 : Int32))), (3, .int x4_13), (0, .ref (a 0)), (1, .int p1), (2, .int r_10), (5, .int (bz x5_20))]) hx hb dX6_sent_155 hl (k := 4) rfl rfl (by decide) rfl (fun ls hl => ?_)
              refine lv_goto (tgt := 45) hx hb dX6_sent_158 (by decide) ?_
              exact ih x4_13 (x4_13 + (1 : Int32)) _ _ hP hD hS ls (lv_sub hl [2, 3, 4, 1, 0] rfl) hrun
            have hL_26 : ∀ n : Nat, ∀ (x5_27 : Bool) (x6_28 : Int32), ∀ (H : Heap) (locs : List Loc), va_P D zCl (cT k a t_7) H → va_D A (cT k a t_7) → va_S A s.heap H locs → ∀ ls : Array Slot, lv_has ls 7 [(0, .ref (a 0)), (1, .int p1), (2, .int r_10), (3, .int x3_12), (4, .int x4_13), (5, .int (bz x5_27)), (6, .int x6_28)] → fX6_sent_L85 t_7 K_21 x4_13 n x5_27 x6_28 = some (r, tt) → W p l e rX6_sent s m args below meth c H locs 0 0 (MQ below (QWr (fun r' w' => r' = (some (.int r)) ∧ w' = cT k a tt) D zCl A) args s 0 0 A) (F0 m 85 ls []) := by
              intro n
              induction n with
              | zero =>
                intro x5_27 x6_28 H locs hP hD hS ls hl hrun
                exact nomatch hrun
              | succ n ih =>
                intro x5_27 x6_28 H locs hP hD hS ls hl hrun
                rw [fX6_sent_L85.eq_2] at hrun
                refine lv_iload hx hb dX6_sent_85 (lv_at hl 6 rfl) ?_
                refine lv_aload_n hx hb dX6_sent_87 rfl (lv_at hl 0 rfl) ?_
                refine va_get (ci := 0) (v := .ref (a 1)) (C := RX6) (T := TX6) (N := 22) hx hb hts in_X6 hown hK hP 0 rfl rfl 1 (by decide) (hts _ q1903) (fun _ h9 => h9) rfl dX6_sent_88 ?_
                refine lv_iconst (v := (3 : Int32)) hx hb dX6_sent_91 (by decide) ?_
                refine va_ialdk (k := 3) hx hb hK hP 1 0 rfl rfl rfl (show ¬ _ from by decide) dX6_sent_92 ?_
                refine lv_icmp_ge (tgt := 133) hx hb dX6_sent_93 (by decide) (fun c_29 => ?_) (fun c_29 => ?_)
                · have hrun := mif_p c_29 hrun
                  exact hj_19 x5_27 _ _ hP hD hS ls (lv_sub hl [0, 1, 2, 3, 4, 5] rfl) hrun
                have hrun := mif_n c_29 hrun
                refine lv_iload hx hb dX6_sent_96 (lv_at hl 5 rfl) ?_
                refine lv_if_eq (tgt := 133) hx hb dX6_sent_98 (by decide) (fun c_30 => ?_) (fun c_30 => ?_)
                · have hrun := mif_n (bz_z c_30) hrun
                  exact hj_19 x5_27 _ _ hP hD hS ls (lv_sub hl [0, 1, 2, 3, 4, 5] rfl) hrun
                have hrun := mif_p (bz_nz c_30) hrun
                refine lv_iload hx hb dX6_sent_101 (lv_at hl 4 rfl) ?_
                refine lv_iload hx hb dX6_sent_103 (lv_at hl 6 rfl) ?_
                obtain ⟨r_32, hc_31, hrun⟩ := mob_s rfl hrun
                refine cRS (ws := []) (As := [.int x4_13, .int x6_28]) ⟨hx, hb, hml, hown, hts⟩ hOK hz hS zP0 (mtX6_isOf l D Z hOK _ _ _ hc_31) (kX6_isOf hts q2175 rfl rfl ⟨Nat.le_of_ble_eq_true rfl, Nat.le_of_ble_eq_true rfl⟩) rfl hl.1 rfl (lv_room (Nat.le_of_ble_eq_true rfl)) ⟨Nat.le_of_ble_eq_true rfl, Nat.le_of_ble_eq_true rfl⟩ dX6_sent_105 ?_
                refine lv_if_eq (tgt := 120) hx hb dX6_sent_108 (by decide) (fun c_33 => ?_) (fun c_33 => ?_)
                · have hrun := mif_n (bz_z c_33) hrun
                  refine lv_iconst (v := (1 : Int32)) hx hb dX6_sent_120 (by decide) ?_
                  refine lv_goto (tgt := 125) hx hb dX6_sent_121 (by decide) ?_
                  refine lv_istore (lv' := [(5, .int (1 : Int32)), (0, .ref (a 0)), (1, .int p1), (2, .int r_10), (3, .int x3_12), (4, .int x4_13), (6, .int x6_28)]) hx hb dX6_sent_125 hl (by decide) rfl (fun ls hl => ?_)
                  refine lv_iinc (v := (x6_28 + (1 : Int32))) (lv' := [(6, .int (x6_28 + (1 : Int32))), (5, .int (1 : Int32)), (0, .ref (a 0)), (1, .int p1), (2, .int r_10), (3, .int x3_12), (4, .int x4_13)]) hx hb dX6_sent_127 hl (k := 6) rfl rfl (by decide) rfl (fun ls hl => ?_)
                  refine lv_goto (tgt := 85) hx hb dX6_sent_130 (by decide) ?_
                  exact ih true (x6_28 + (1 : Int32)) _ _ hP hD hS ls (lv_sub hl [2, 3, 4, 5, 6, 1, 0] rfl) hrun
                have hrun := mif_p (bz_nz c_33) hrun
                refine lv_aload_n hx hb dX6_sent_111 rfl (lv_at hl 0 rfl) ?_
                refine lv_iload hx hb dX6_sent_112 (lv_at hl 6 rfl) ?_
                obtain ⟨r_35, hc_34, hrun⟩ := mob_s rfl hrun
                refine cRV (As := [.int x6_28]) (ci := 0) ⟨hx, hb, hml, hown, hts⟩ hOK hz hS hP (mtX6_isHere l D k a Z hOK _ _ _ hc_34) (kX6_isHere hts q2155 rfl rfl ⟨Nat.le_of_ble_eq_true rfl, Nat.le_of_ble_eq_true rfl⟩) 0 rfl rfl rfl hl.1 rfl (lv_room (Nat.le_of_ble_eq_true rfl)) ⟨Nat.le_of_ble_eq_true rfl, Nat.le_of_ble_eq_true rfl⟩ dX6_sent_114 ?_
                refine lv_if_eq (tgt := 124) hx hb dX6_sent_117 (by decide) (fun c_36 => ?_) (fun c_36 => ?_)
                · have hrun := mif_n (bz_z c_36) hrun
                  refine lv_iconst (v := (0 : Int32)) hx hb dX6_sent_124 (by decide) ?_
                  refine lv_istore (lv' := [(5, .int (0 : Int32)), (0, .ref (a 0)), (1, .int p1), (2, .int r_10), (3, .int x3_12), (4, .int x4_13), (6, .int x6_28)]) hx hb dX6_sent_125 hl (by decide) rfl (fun ls hl => ?_)
                  refine lv_iinc (v := (x6_28 + (1 : Int32))) (lv' := [(6, .int (x6_28 + (1 : Int32))), (5, .int (0 : Int32)), (0, .ref (a 0)), (1, .int p1), (2, .int r_10), (3, .int x3_12), (4, .int x4_13)]) hx hb dX6_sent_127 hl (k := 6) rfl rfl (by decide) rfl (fun ls hl => ?_)
                  refine lv_goto (tgt := 85) hx hb dX6_sent_130 (by decide) ?_
                  exact ih false (x6_28 + (1 : Int32)) _ _ hP hD hS ls (lv_sub hl [2, 3, 4, 5, 6, 1, 0] rfl) hrun
                have hrun := mif_p (bz_nz c_36) hrun
                refine lv_iconst (v := (1 : Int32)) hx hb dX6_sent_120 (by decide) ?_
                refine lv_goto (tgt := 125) hx hb dX6_sent_121 (by decide) ?_
                refine lv_istore (lv' := [(5, .int (1 : Int32)), (0, .ref (a 0)), (1, .int p1), (2, .int r_10), (3, .int x3_12), (4, .int x4_13), (6, .int x6_28)]) hx hb dX6_sent_125 hl (by decide) rfl (fun ls hl => ?_)
                refine lv_iinc (v := (x6_28 + (1 : Int32))) (lv' := [(6, .int (x6_28 + (1 : Int32))), (5, .int (1 : Int32)), (0, .ref (a 0)), (1, .int p1), (2, .int r_10), (3, .int x3_12), (4, .int x4_13)]) hx hb dX6_sent_127 hl (k := 6) rfl rfl (by decide) rfl (fun ls hl => ?_)
                refine lv_goto (tgt := 85) hx hb dX6_sent_130 (by decide) ?_
                exact ih true (x6_28 + (1 : Int32)) _ _ hP hD hS ls (lv_sub hl [2, 3, 4, 5, 6, 1, 0] rfl) hrun
            exact hL_26 mFU y_17 (0 : Int32) _ _ hP hD hS ls (lv_sub hl [2, 3, 4, 5, 6, 1, 0] rfl) hrun
          refine lv_icmp_eq (tgt := 75) hx hb dX6_sent_60 (by decide) (fun c_15 => ?_) (fun c_15 => ?_)
          · have hrun := mif_p c_15 hrun
            refine lv_iconst (v := (1 : Int32)) hx hb dX6_sent_75 (by decide) ?_
            refine lv_goto (tgt := 80) hx hb dX6_sent_76 (by decide) ?_
            exact hj_16 true _ _ hP hD hS ls (lv_sub hl [0, 1, 2, 3, 4] rfl) hrun
          have hrun := mif_n c_15 hrun
          refine lv_iload hx hb dX6_sent_63 (lv_at hl 4 rfl) ?_
          obtain ⟨r_39, hc_38, hrun⟩ := mob_s rfl hrun
          refine cRS (ws := []) (As := [.int x4_13]) ⟨hx, hb, hml, hown, hts⟩ hOK hz hS zP0 (mtX6_bits l D Z hOK _ _ hc_38) (kX6_bits hts q2148 rfl rfl ⟨Nat.le_of_ble_eq_true rfl, Nat.le_of_ble_eq_true rfl⟩) rfl hl.1 rfl (lv_room (Nat.le_of_ble_eq_true rfl)) ⟨Nat.le_of_ble_eq_true rfl, Nat.le_of_ble_eq_true rfl⟩ dX6_sent_65 ?_
          refine lv_iload_n hx hb dX6_sent_68 rfl (lv_at hl 3 rfl) ?_
          obtain ⟨r_41, hc_40, hrun⟩ := mob_s rfl hrun
          refine cRS (ws := []) (As := [.int x3_12]) ⟨hx, hb, hml, hown, hts⟩ hOK hz hS zP0 (mtX6_bits l D Z hOK _ _ hc_40) (kX6_bits hts q2148 rfl rfl ⟨Nat.le_of_ble_eq_true rfl, Nat.le_of_ble_eq_true rfl⟩) rfl hl.1 rfl (lv_room (Nat.le_of_ble_eq_true rfl)) ⟨Nat.le_of_ble_eq_true rfl, Nat.le_of_ble_eq_true rfl⟩ dX6_sent_69 ?_
          refine lv_icmp_ge (tgt := 79) hx hb dX6_sent_72 (by decide) (fun c_42 => ?_) (fun c_42 => ?_)
          · have hrun := mif_p c_42 hrun
            refine lv_iconst (v := (0 : Int32)) hx hb dX6_sent_79 (by decide) ?_
            exact hj_16 false _ _ hP hD hS ls (lv_sub hl [0, 1, 2, 3, 4] rfl) hrun
          have hrun := mif_n c_42 hrun
          refine lv_iconst (v := (1 : Int32)) hx hb dX6_sent_75 (by decide) ?_
          refine lv_goto (tgt := 80) hx hb dX6_sent_76 (by decide) ?_
          exact hj_16 true _ _ hP hD hS ls (lv_sub hl [0, 1, 2, 3, 4] rfl) hrun
      exact hL_11 mFU (-1 : Int32) (0 : Int32) _ _ hP hD hS ls (lv_sub hl [3, 4, 2, 1, 0] rfl) hrun
    have hrun := mif_n c_8 hrun
    refine lv_iconst (v := (0 : Int32)) hx hb dX6_sent_27 (by decide) ?_
    cases hrun
    exact retW_i hx hb hr hlocks hP hD hS ⟨rfl, rfl⟩ dX6_sent_28
  refine lv_if_ne (tgt := 16) hx hb dX6_sent_9 (by decide) (fun c_3 => ?_) (fun c_3 => ?_)
  · have hrun := mif_p (bz_nz c_3) hrun
    refine lv_iconst (v := (0 : Int32)) hx hb dX6_sent_16 (by decide) ?_
    exact hj_4 false _ _ hP hD hS ls (lv_sub hl [0, 1] rfl) hrun
  have hrun := mif_n (bz_z c_3) hrun
  refine lv_iconst (v := (1 : Int32)) hx hb dX6_sent_12 (by decide) ?_
  refine lv_goto (tgt := 17) hx hb dX6_sent_13 (by decide) ?_
  exact hj_4 true _ _ hP hD hS ls (lv_sub hl [0, 1] rfl) hrun
def rX6_quiet : Room := { frames := 5, cells := 0, slots := 0, locals := 112 }
noncomputable def fX6_quiet_L9 (t_1 : Tw) : Nat → Int32 → Int32 → Option (Int32 × Tw)
  | 0, _, _ => none
  | n + 1, x1_3, x2_4 =>
    if (8 : Int32) ≤ x2_4 then
      some (x1_3, t_1)
    else
      mob (fX6_watchers t_1 x2_4) fun r_7 =>
      if r_7 = (0 : Int32) then
        fX6_quiet_L9 t_1 n (x1_3 ||| ((1 : Int32) <<< (x2_4 &&& (31 : Int32)))) (x2_4 + (1 : Int32))
      else
        fX6_quiet_L9 t_1 n (x1_3 ||| (0 : Int32)) (x2_4 + (1 : Int32))
noncomputable def fX6_quiet (t : Tw) : Option (Int32 × Tw) :=
  mlt (tw_s_thrown t (0 : Int32)) fun t_1 =>
  fX6_quiet_L9 t_1 mFU (0 : Int32) (0 : Int32)
theorem kX6_quiet {R : Room} {s : State} {args : Array Value} {own : String} {idx mc ms : Nat} {rm : Room} (hts : ∀ w ∈ lw_all, w.before args s = true) (hl : Cond.methodLink own idx yX6_quiet ∈ lw_all) (hrc : rm.cells = mc) (hrs : rm.slots = ms) (hR : rm.frames + 1 ≤ R.frames ∧ 8 + (3 + 11) + rm.locals ≤ R.locals) : CallW R s args own RX6 idx yX6_quiet cX6_quiet 3 (some .int) (ws_ yX6_quiet cX6_quiet 3 (some .int)) rm mc ms 0 :=
  cwV 0 hts (lw_V hl q2335 q2336 q115 q2337) rfl hrc hrs (by decide +kernel) hR
set_option maxHeartbeats 4000000 in
set_option maxRecDepth 100000 in
theorem mtX6_quiet (l : Launch) (D : va_G) (k : Nat → ClassId) (a : Nat → Nat) (Z : zZ) (hOK : zOK D zCl (zTys k) Z) (t : Tw) (r : Int32) (tt : Tw) (hrun : fX6_quiet t = some (r, tt)) :
    CtW l yX6_quiet cX6_quiet 3 (some .int) rX6_quiet Z D zCl (cT k a t) [.ref (a 0)] (fun r' w' => r' = (some (.int r)) ∧ w' = cT k a tt) 0 0 := by
  refine CtW.of (by decide) (Nat.le_of_ble_eq_true rfl) ?_
  intro p e s m args below meth c A hE hA hP hD hS hz ls hl
  obtain ⟨hx, hb, hr, hml, hown, hts, hlocks, hname⟩ := hE
  have hown : s.vm.findClass RX6 = some m.cls := hown
  have hK := hOK.1 _ _ _ hz
  have hl : lv_has ls 3 [(0, .ref (a 0))] := hl
  unfold fX6_quiet at hrun
  refine lv_aload_n hx hb dX6_quiet_0 rfl (lv_at hl 0 rfl) ?_
  refine lv_iconst (v := (0 : Int32)) hx hb dX6_quiet_1 (by decide) ?_
  refine va_put (ci := 0) (v := .int (0 : Int32)) (ty := tyX6 0) (C := RX6) (T := TX6) (N := 22) hx hb hts in_X6 tyX6 tyX6_ok nmX6 hown hK hP hD hS 0 rfl rfl 0 (by decide) (hts _ q1902) (fun _ h9 => h9) rfl (tyX6_ok 0 (by decide)) rfl rfl (Nat.le_of_ble_eq_true rfl) dX6_quiet_2 (fun H locs hP hD hS => ?_)
  have hP : va_P D zCl (cT k a (tw_s_thrown t (0 : Int32))) H := hP
  have hD : va_D A (cT k a (tw_s_thrown t (0 : Int32))) := hD
  obtain ⟨t_1, et_1⟩ : ∃ z : Tw, z = (tw_s_thrown t (0 : Int32)) := ⟨_, rfl⟩
  rw [← et_1] at hP hD
  have hrun := mlt_s hrun t_1 et_1
  refine lv_iconst (v := (0 : Int32)) hx hb dX6_quiet_5 (by decide) ?_
  refine lv_istore_n (lv' := [(1, .int (0 : Int32)), (0, .ref (a 0))]) hx hb dX6_quiet_6 rfl hl (by decide) rfl (fun ls hl => ?_)
  refine lv_iconst (v := (0 : Int32)) hx hb dX6_quiet_7 (by decide) ?_
  refine lv_istore_n (lv' := [(2, .int (0 : Int32)), (1, .int (0 : Int32)), (0, .ref (a 0))]) hx hb dX6_quiet_8 rfl hl (by decide) rfl (fun ls hl => ?_)
  have hL_2 : ∀ n : Nat, ∀ (x1_3 : Int32) (x2_4 : Int32), ∀ (H : Heap) (locs : List Loc), va_P D zCl (cT k a t_1) H → va_D A (cT k a t_1) → va_S A s.heap H locs → ∀ ls : Array Slot, lv_has ls 3 [(0, .ref (a 0)), (1, .int x1_3), (2, .int x2_4)] → fX6_quiet_L9 t_1 n x1_3 x2_4 = some (r, tt) → W p l e rX6_quiet s m args below meth c H locs 0 0 (MQ below (QWr (fun r' w' => r' = (some (.int r)) ∧ w' = cT k a tt) D zCl A) args s 0 0 A) (F0 m 9 ls []) := by
    intro n
    induction n with
    | zero =>
      intro x1_3 x2_4 H locs hP hD hS ls hl hrun
      exact nomatch hrun
    | succ n ih =>
      intro x1_3 x2_4 H locs hP hD hS ls hl hrun
      rw [fX6_quiet_L9.eq_2] at hrun
      refine lv_iload_n hx hb dX6_quiet_9 rfl (lv_at hl 2 rfl) ?_
      refine lv_bipush (v := (8 : Int32)) hx hb dX6_quiet_10 (by decide) ?_
      refine lv_icmp_ge (tgt := 39) hx hb dX6_quiet_12 (by decide) (fun c_5 => ?_) (fun c_5 => ?_)
      · have hrun := mif_p c_5 hrun
        refine lv_iload_n hx hb dX6_quiet_39 rfl (lv_at hl 1 rfl) ?_
        cases hrun
        exact retW_i hx hb hr hlocks hP hD hS ⟨rfl, rfl⟩ dX6_quiet_40
      have hrun := mif_n c_5 hrun
      refine lv_iload_n hx hb dX6_quiet_15 rfl (lv_at hl 1 rfl) ?_
      refine lv_aload_n hx hb dX6_quiet_16 rfl (lv_at hl 0 rfl) ?_
      refine lv_iload_n hx hb dX6_quiet_17 rfl (lv_at hl 2 rfl) ?_
      obtain ⟨r_7, hc_6, hrun⟩ := mob_s rfl hrun
      refine cRV (As := [.int x2_4]) (ci := 0) ⟨hx, hb, hml, hown, hts⟩ hOK hz hS hP (mtX6_watchers l D k a Z hOK _ _ _ hc_6) (kX6_watchers hts q2193 rfl rfl ⟨Nat.le_of_ble_eq_true rfl, Nat.le_of_ble_eq_true rfl⟩) 0 rfl rfl rfl hl.1 rfl (lv_room (Nat.le_of_ble_eq_true rfl)) ⟨Nat.le_of_ble_eq_true rfl, Nat.le_of_ble_eq_true rfl⟩ dX6_quiet_18 ?_
      refine lv_if_ne (tgt := 30) hx hb dX6_quiet_21 (by decide) (fun c_8 => ?_) (fun c_8 => ?_)
      · have hrun := mif_n c_8 hrun
        refine lv_iconst (v := (0 : Int32)) hx hb dX6_quiet_30 (by decide) ?_
        refine lv_ior hx hb dX6_quiet_31 ?_
        refine lv_istore_n (lv' := [(1, .int (x1_3 ||| (0 : Int32))), (0, .ref (a 0)), (2, .int x2_4)]) hx hb dX6_quiet_32 rfl hl (by decide) rfl (fun ls hl => ?_)
        refine lv_iinc (v := (x2_4 + (1 : Int32))) (lv' := [(2, .int (x2_4 + (1 : Int32))), (1, .int (x1_3 ||| (0 : Int32))), (0, .ref (a 0))]) hx hb dX6_quiet_33 hl (k := 2) rfl rfl (by decide) rfl (fun ls hl => ?_)
        refine lv_goto (tgt := 9) hx hb dX6_quiet_36 (by decide) ?_
        exact ih (x1_3 ||| (0 : Int32)) (x2_4 + (1 : Int32)) _ _ hP hD hS ls (lv_sub hl [2, 1, 0] rfl) hrun
      have hrun := mif_p c_8 hrun
      refine lv_iconst (v := (1 : Int32)) hx hb dX6_quiet_24 (by decide) ?_
      refine lv_iload_n hx hb dX6_quiet_25 rfl (lv_at hl 2 rfl) ?_
      refine lv_ishl hx hb dX6_quiet_26 ?_
      refine lv_goto (tgt := 31) hx hb dX6_quiet_27 (by decide) ?_
      refine lv_ior hx hb dX6_quiet_31 ?_
      refine lv_istore_n (lv' := [(1, .int (x1_3 ||| ((1 : Int32) <<< (x2_4 &&& (31 : Int32))))), (0, .ref (a 0)), (2, .int x2_4)]) hx hb dX6_quiet_32 rfl hl (by decide) rfl (fun ls hl => ?_)
      refine lv_iinc (v := (x2_4 + (1 : Int32))) (lv' := [(2, .int (x2_4 + (1 : Int32))), (1, .int (x1_3 ||| ((1 : Int32) <<< (x2_4 &&& (31 : Int32))))), (0, .ref (a 0))]) hx hb dX6_quiet_33 hl (k := 2) rfl rfl (by decide) rfl (fun ls hl => ?_)
      refine lv_goto (tgt := 9) hx hb dX6_quiet_36 (by decide) ?_
      exact ih (x1_3 ||| ((1 : Int32) <<< (x2_4 &&& (31 : Int32)))) (x2_4 + (1 : Int32)) _ _ hP hD hS ls (lv_sub hl [2, 1, 0] rfl) hrun
  exact hL_2 mFU (0 : Int32) (0 : Int32) _ _ hP hD hS ls (lv_sub hl [2, 1, 0] rfl) hrun
def rX6_best : Room := { frames := 5, cells := 0, slots := 0, locals := 112 }
noncomputable def fX6_best_L9 (t_1 : Tw) : Nat → Int32 → Int32 → Option (Int32 × Tw)
  | 0, _, _ => none
  | n + 1, x1_3, x2_4 =>
    if (8 : Int32) ≤ x2_4 then
      some (x1_3, t_1)
    else
      mob (fX6_watchers t_1 x2_4) fun r_7 =>
      mob (fX6_bits r_7) fun r_9 =>
      mob (fX6_watchers t_1 x1_3) fun r_11 =>
      mob (fX6_bits r_11) fun r_13 =>
      if (r_9 - r_13) < (0 : Int32) then
        fX6_best_L9 t_1 n x2_4 (x2_4 + (1 : Int32))
      else
        if (r_9 - r_13) = (0 : Int32) then
          mob (fX6_watchers t_1 x2_4) fun r_17 =>
          mob (fX6_risksOf t_1 r_17) fun r_19 =>
          mob (fX6_watchers t_1 x1_3) fun r_21 =>
          mob (fX6_risksOf t_1 r_21) fun r_23 =>
          if r_23 ≤ r_19 then
            fX6_best_L9 t_1 n x1_3 (x2_4 + (1 : Int32))
          else
            fX6_best_L9 t_1 n x2_4 (x2_4 + (1 : Int32))
        else
          fX6_best_L9 t_1 n x1_3 (x2_4 + (1 : Int32))
noncomputable def fX6_best (t : Tw) : Option (Int32 × Tw) :=
  mlt (tw_s_thrown t (0 : Int32)) fun t_1 =>
  fX6_best_L9 t_1 mFU (0 : Int32) (1 : Int32)
theorem kX6_best {R : Room} {s : State} {args : Array Value} {own : String} {idx mc ms : Nat} {rm : Room} (hts : ∀ w ∈ lw_all, w.before args s = true) (hl : Cond.methodLink own idx yX6_best ∈ lw_all) (hrc : rm.cells = mc) (hrs : rm.slots = ms) (hR : rm.frames + 1 ≤ R.frames ∧ 8 + (4 + 11) + rm.locals ≤ R.locals) : CallW R s args own RX6 idx yX6_best cX6_best 4 (some .int) (ws_ yX6_best cX6_best 4 (some .int)) rm mc ms 0 :=
  cwV 0 hts (lw_V hl q2339 q2340 q115 q2341) rfl hrc hrs (by decide +kernel) hR
set_option maxHeartbeats 4000000 in
set_option maxRecDepth 100000 in
theorem mtX6_best (l : Launch) (D : va_G) (k : Nat → ClassId) (a : Nat → Nat) (Z : zZ) (hOK : zOK D zCl (zTys k) Z) (t : Tw) (r : Int32) (tt : Tw) (hrun : fX6_best t = some (r, tt)) :
    CtW l yX6_best cX6_best 4 (some .int) rX6_best Z D zCl (cT k a t) [.ref (a 0)] (fun r' w' => r' = (some (.int r)) ∧ w' = cT k a tt) 0 0 := by
  refine CtW.of (by decide) (Nat.le_of_ble_eq_true rfl) ?_
  intro p e s m args below meth c A hE hA hP hD hS hz ls hl
  obtain ⟨hx, hb, hr, hml, hown, hts, hlocks, hname⟩ := hE
  have hown : s.vm.findClass RX6 = some m.cls := hown
  have hK := hOK.1 _ _ _ hz
  have hl : lv_has ls 4 [(0, .ref (a 0))] := hl
  unfold fX6_best at hrun
  refine lv_aload_n hx hb dX6_best_0 rfl (lv_at hl 0 rfl) ?_
  refine lv_iconst (v := (0 : Int32)) hx hb dX6_best_1 (by decide) ?_
  refine va_put (ci := 0) (v := .int (0 : Int32)) (ty := tyX6 0) (C := RX6) (T := TX6) (N := 22) hx hb hts in_X6 tyX6 tyX6_ok nmX6 hown hK hP hD hS 0 rfl rfl 0 (by decide) (hts _ q1902) (fun _ h9 => h9) rfl (tyX6_ok 0 (by decide)) rfl rfl (Nat.le_of_ble_eq_true rfl) dX6_best_2 (fun H locs hP hD hS => ?_)
  have hP : va_P D zCl (cT k a (tw_s_thrown t (0 : Int32))) H := hP
  have hD : va_D A (cT k a (tw_s_thrown t (0 : Int32))) := hD
  obtain ⟨t_1, et_1⟩ : ∃ z : Tw, z = (tw_s_thrown t (0 : Int32)) := ⟨_, rfl⟩
  rw [← et_1] at hP hD
  have hrun := mlt_s hrun t_1 et_1
  refine lv_iconst (v := (0 : Int32)) hx hb dX6_best_5 (by decide) ?_
  refine lv_istore_n (lv' := [(1, .int (0 : Int32)), (0, .ref (a 0))]) hx hb dX6_best_6 rfl hl (by decide) rfl (fun ls hl => ?_)
  refine lv_iconst (v := (1 : Int32)) hx hb dX6_best_7 (by decide) ?_
  refine lv_istore_n (lv' := [(2, .int (1 : Int32)), (1, .int (0 : Int32)), (0, .ref (a 0))]) hx hb dX6_best_8 rfl hl (by decide) rfl (fun ls hl => ?_)
  have hL_2 : ∀ n : Nat, ∀ (x1_3 : Int32) (x2_4 : Int32), ∀ (H : Heap) (locs : List Loc), va_P D zCl (cT k a t_1) H → va_D A (cT k a t_1) → va_S A s.heap H locs → ∀ ls : Array Slot, lv_has ls 4 [(0, .ref (a 0)), (1, .int x1_3), (2, .int x2_4)] → fX6_best_L9 t_1 n x1_3 x2_4 = some (r, tt) → W p l e rX6_best s m args below meth c H locs 0 0 (MQ below (QWr (fun r' w' => r' = (some (.int r)) ∧ w' = cT k a tt) D zCl A) args s 0 0 A) (F0 m 9 ls []) := by
    intro n
    induction n with
    | zero =>
      intro x1_3 x2_4 H locs hP hD hS ls hl hrun
      exact nomatch hrun
    | succ n ih =>
      intro x1_3 x2_4 H locs hP hD hS ls hl hrun
      rw [fX6_best_L9.eq_2] at hrun
      refine lv_iload_n hx hb dX6_best_9 rfl (lv_at hl 2 rfl) ?_
      refine lv_bipush (v := (8 : Int32)) hx hb dX6_best_10 (by decide) ?_
      refine lv_icmp_ge (tgt := 70) hx hb dX6_best_12 (by decide) (fun c_5 => ?_) (fun c_5 => ?_)
      · have hrun := mif_p c_5 hrun
        refine lv_iload_n hx hb dX6_best_70 rfl (lv_at hl 1 rfl) ?_
        cases hrun
        exact retW_i hx hb hr hlocks hP hD hS ⟨rfl, rfl⟩ dX6_best_71
      have hrun := mif_n c_5 hrun
      refine lv_aload_n hx hb dX6_best_15 rfl (lv_at hl 0 rfl) ?_
      refine lv_iload_n hx hb dX6_best_16 rfl (lv_at hl 2 rfl) ?_
      obtain ⟨r_7, hc_6, hrun⟩ := mob_s rfl hrun
      refine cRV (As := [.int x2_4]) (ci := 0) ⟨hx, hb, hml, hown, hts⟩ hOK hz hS hP (mtX6_watchers l D k a Z hOK _ _ _ hc_6) (kX6_watchers hts q2193 rfl rfl ⟨Nat.le_of_ble_eq_true rfl, Nat.le_of_ble_eq_true rfl⟩) 0 rfl rfl rfl hl.1 rfl (lv_room (Nat.le_of_ble_eq_true rfl)) ⟨Nat.le_of_ble_eq_true rfl, Nat.le_of_ble_eq_true rfl⟩ dX6_best_17 ?_
      obtain ⟨r_9, hc_8, hrun⟩ := mob_s rfl hrun
      refine cRS (ws := []) (As := [.int r_7]) ⟨hx, hb, hml, hown, hts⟩ hOK hz hS zP0 (mtX6_bits l D Z hOK _ _ hc_8) (kX6_bits hts q2148 rfl rfl ⟨Nat.le_of_ble_eq_true rfl, Nat.le_of_ble_eq_true rfl⟩) rfl hl.1 rfl (lv_room (Nat.le_of_ble_eq_true rfl)) ⟨Nat.le_of_ble_eq_true rfl, Nat.le_of_ble_eq_true rfl⟩ dX6_best_20 ?_
      refine lv_aload_n hx hb dX6_best_23 rfl (lv_at hl 0 rfl) ?_
      refine lv_iload_n hx hb dX6_best_24 rfl (lv_at hl 1 rfl) ?_
      obtain ⟨r_11, hc_10, hrun⟩ := mob_s rfl hrun
      refine cRV (As := [.int x1_3]) (ci := 0) ⟨hx, hb, hml, hown, hts⟩ hOK hz hS hP (mtX6_watchers l D k a Z hOK _ _ _ hc_10) (kX6_watchers hts q2193 rfl rfl ⟨Nat.le_of_ble_eq_true rfl, Nat.le_of_ble_eq_true rfl⟩) 0 rfl rfl rfl hl.1 rfl (lv_room (Nat.le_of_ble_eq_true rfl)) ⟨Nat.le_of_ble_eq_true rfl, Nat.le_of_ble_eq_true rfl⟩ dX6_best_25 ?_
      obtain ⟨r_13, hc_12, hrun⟩ := mob_s rfl hrun
      refine cRS (ws := []) (As := [.int r_11]) ⟨hx, hb, hml, hown, hts⟩ hOK hz hS zP0 (mtX6_bits l D Z hOK _ _ hc_12) (kX6_bits hts q2148 rfl rfl ⟨Nat.le_of_ble_eq_true rfl, Nat.le_of_ble_eq_true rfl⟩) rfl hl.1 rfl (lv_room (Nat.le_of_ble_eq_true rfl)) ⟨Nat.le_of_ble_eq_true rfl, Nat.le_of_ble_eq_true rfl⟩ dX6_best_28 ?_
      refine lv_isub hx hb dX6_best_31 ?_
      refine lv_istore_n (lv' := [(3, .int (r_9 - r_13)), (0, .ref (a 0)), (1, .int x1_3), (2, .int x2_4)]) hx hb dX6_best_32 rfl hl (by decide) rfl (fun ls hl => ?_)
      refine lv_iload_n hx hb dX6_best_33 rfl (lv_at hl 0 rfl) ?_
      refine lv_if_lt (tgt := 62) hx hb dX6_best_34 (by decide) (fun c_14 => ?_) (fun c_14 => ?_)
      · have hrun := mif_p c_14 hrun
        refine lv_iload_n hx hb dX6_best_62 rfl (lv_at hl 3 rfl) ?_
        refine lv_istore_n (lv' := [(1, .int x2_4), (3, .int (r_9 - r_13)), (0, .ref (a 0)), (2, .int x2_4)]) hx hb dX6_best_63 rfl hl (by decide) rfl (fun ls hl => ?_)
        refine lv_iinc (v := (x2_4 + (1 : Int32))) (lv' := [(2, .int (x2_4 + (1 : Int32))), (1, .int x2_4), (3, .int (r_9 - r_13)), (0, .ref (a 0))]) hx hb dX6_best_64 hl (k := 3) rfl rfl (by decide) rfl (fun ls hl => ?_)
        refine lv_goto (tgt := 9) hx hb dX6_best_67 (by decide) ?_
        exact ih x2_4 (x2_4 + (1 : Int32)) _ _ hP hD hS ls (lv_sub hl [3, 1, 0] rfl) hrun
      have hrun := mif_n c_14 hrun
      refine lv_iload_n hx hb dX6_best_37 rfl (lv_at hl 0 rfl) ?_
      refine lv_if_ne (tgt := 64) hx hb dX6_best_38 (by decide) (fun c_15 => ?_) (fun c_15 => ?_)
      · have hrun := mif_n c_15 hrun
        refine lv_iinc (v := (x2_4 + (1 : Int32))) (lv' := [(2, .int (x2_4 + (1 : Int32))), (3, .int (r_9 - r_13)), (0, .ref (a 0)), (1, .int x1_3)]) hx hb dX6_best_64 hl (k := 3) rfl rfl (by decide) rfl (fun ls hl => ?_)
        refine lv_goto (tgt := 9) hx hb dX6_best_67 (by decide) ?_
        exact ih x1_3 (x2_4 + (1 : Int32)) _ _ hP hD hS ls (lv_sub hl [2, 3, 0] rfl) hrun
      have hrun := mif_p c_15 hrun
      refine lv_aload_n hx hb dX6_best_41 rfl (lv_at hl 1 rfl) ?_
      refine lv_aload_n hx hb dX6_best_42 rfl (lv_at hl 1 rfl) ?_
      refine lv_iload_n hx hb dX6_best_43 rfl (lv_at hl 3 rfl) ?_
      obtain ⟨r_17, hc_16, hrun⟩ := mob_s rfl hrun
      refine cRV (As := [.int x2_4]) (ci := 0) ⟨hx, hb, hml, hown, hts⟩ hOK hz hS hP (mtX6_watchers l D k a Z hOK _ _ _ hc_16) (kX6_watchers hts q2193 rfl rfl ⟨Nat.le_of_ble_eq_true rfl, Nat.le_of_ble_eq_true rfl⟩) 0 rfl rfl rfl hl.1 rfl (lv_room (Nat.le_of_ble_eq_true rfl)) ⟨Nat.le_of_ble_eq_true rfl, Nat.le_of_ble_eq_true rfl⟩ dX6_best_44 ?_
      obtain ⟨r_19, hc_18, hrun⟩ := mob_s rfl hrun
      refine cRV (As := [.int r_17]) (ci := 0) ⟨hx, hb, hml, hown, hts⟩ hOK hz hS hP (mtX6_risksOf l D k a Z hOK _ _ _ hc_18) (kX6_risksOf hts q2342 rfl rfl ⟨Nat.le_of_ble_eq_true rfl, Nat.le_of_ble_eq_true rfl⟩) 0 rfl rfl rfl hl.1 rfl (lv_room (Nat.le_of_ble_eq_true rfl)) ⟨Nat.le_of_ble_eq_true rfl, Nat.le_of_ble_eq_true rfl⟩ dX6_best_47 ?_
      refine lv_aload_n hx hb dX6_best_50 rfl (lv_at hl 1 rfl) ?_
      refine lv_aload_n hx hb dX6_best_51 rfl (lv_at hl 1 rfl) ?_
      refine lv_iload_n hx hb dX6_best_52 rfl (lv_at hl 2 rfl) ?_
      obtain ⟨r_21, hc_20, hrun⟩ := mob_s rfl hrun
      refine cRV (As := [.int x1_3]) (ci := 0) ⟨hx, hb, hml, hown, hts⟩ hOK hz hS hP (mtX6_watchers l D k a Z hOK _ _ _ hc_20) (kX6_watchers hts q2193 rfl rfl ⟨Nat.le_of_ble_eq_true rfl, Nat.le_of_ble_eq_true rfl⟩) 0 rfl rfl rfl hl.1 rfl (lv_room (Nat.le_of_ble_eq_true rfl)) ⟨Nat.le_of_ble_eq_true rfl, Nat.le_of_ble_eq_true rfl⟩ dX6_best_53 ?_
      obtain ⟨r_23, hc_22, hrun⟩ := mob_s rfl hrun
      refine cRV (As := [.int r_21]) (ci := 0) ⟨hx, hb, hml, hown, hts⟩ hOK hz hS hP (mtX6_risksOf l D k a Z hOK _ _ _ hc_22) (kX6_risksOf hts q2342 rfl rfl ⟨Nat.le_of_ble_eq_true rfl, Nat.le_of_ble_eq_true rfl⟩) 0 rfl rfl rfl hl.1 rfl (lv_room (Nat.le_of_ble_eq_true rfl)) ⟨Nat.le_of_ble_eq_true rfl, Nat.le_of_ble_eq_true rfl⟩ dX6_best_56 ?_
      refine lv_icmp_ge (tgt := 64) hx hb dX6_best_59 (by decide) (fun c_24 => ?_) (fun c_24 => ?_)
      · have hrun := mif_p c_24 hrun
        refine lv_iinc (v := (x2_4 + (1 : Int32))) (lv' := [(2, .int (x2_4 + (1 : Int32))), (3, .int (r_9 - r_13)), (0, .ref (a 0)), (1, .int x1_3)]) hx hb dX6_best_64 hl (k := 3) rfl rfl (by decide) rfl (fun ls hl => ?_)
        refine lv_goto (tgt := 9) hx hb dX6_best_67 (by decide) ?_
        exact ih x1_3 (x2_4 + (1 : Int32)) _ _ hP hD hS ls (lv_sub hl [2, 3, 0] rfl) hrun
      have hrun := mif_n c_24 hrun
      refine lv_iload_n hx hb dX6_best_62 rfl (lv_at hl 3 rfl) ?_
      refine lv_istore_n (lv' := [(1, .int x2_4), (3, .int (r_9 - r_13)), (0, .ref (a 0)), (2, .int x2_4)]) hx hb dX6_best_63 rfl hl (by decide) rfl (fun ls hl => ?_)
      refine lv_iinc (v := (x2_4 + (1 : Int32))) (lv' := [(2, .int (x2_4 + (1 : Int32))), (1, .int x2_4), (3, .int (r_9 - r_13)), (0, .ref (a 0))]) hx hb dX6_best_64 hl (k := 3) rfl rfl (by decide) rfl (fun ls hl => ?_)
      refine lv_goto (tgt := 9) hx hb dX6_best_67 (by decide) ?_
      exact ih x2_4 (x2_4 + (1 : Int32)) _ _ hP hD hS ls (lv_sub hl [3, 1, 0] rfl) hrun
  exact hL_2 mFU (0 : Int32) (1 : Int32) _ _ hP hD hS ls (lv_sub hl [2, 1, 0] rfl) hrun
