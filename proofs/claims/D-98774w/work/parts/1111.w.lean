/-! walks: X6_shut, X6_shifts, X6_bored, X6_well, X6_pass, X6_led -/
def rX6_shut : Room := { frames := 2, cells := 0, slots := 0, locals := 43 }
noncomputable def fX6_shut_L9 (t_1 : Tw) : Nat → Int32 → Int32 → Option (Int32 × Tw)
  | 0, _, _ => none
  | n + 1, x1_3, x2_4 =>
    if (256 : Int32) ≤ x2_4 then
      some (x1_3, t_1)
    else
      if x1_3 = (-1 : Int32) then
        mob (fX6_shuts t_1 x2_4) fun r_8 =>
        if r_8 = true then
          fX6_shut_L9 t_1 n x2_4 (x2_4 + (1 : Int32))
        else
          fX6_shut_L9 t_1 n x1_3 (x2_4 + (1 : Int32))
      else
        mob (fX6_bits x2_4) fun r_11 =>
        mob (fX6_bits x1_3) fun r_13 =>
        if r_13 ≤ r_11 then
          fX6_shut_L9 t_1 n x1_3 (x2_4 + (1 : Int32))
        else
          mob (fX6_shuts t_1 x2_4) fun r_16 =>
          if r_16 = true then
            fX6_shut_L9 t_1 n x2_4 (x2_4 + (1 : Int32))
          else
            fX6_shut_L9 t_1 n x1_3 (x2_4 + (1 : Int32))
noncomputable def fX6_shut (t : Tw) : Option (Int32 × Tw) :=
  mlt (tw_s_thrown t (0 : Int32)) fun t_1 =>
  fX6_shut_L9 t_1 mFU (-1 : Int32) (0 : Int32)
theorem kX6_shut {R : Room} {s : State} {args : Array Value} {own : String} {idx mc ms : Nat} {rm : Room} (hts : ∀ w ∈ lw_all, w.before args s = true) (hl : Cond.methodLink own idx yX6_shut ∈ lw_all) (hrc : rm.cells = mc) (hrs : rm.slots = ms) (hR : rm.frames + 1 ≤ R.frames ∧ 8 + (3 + 11) + rm.locals ≤ R.locals) : CallW R s args own RX6 idx yX6_shut cX6_shut 3 (some .int) (ws_ yX6_shut cX6_shut 3 (some .int)) rm mc ms 0 :=
  cwV 0 hts (lw_V hl q2327 q2328 q115 q2329) rfl hrc hrs (by decide +kernel) hR
set_option maxHeartbeats 4000000 in
set_option maxRecDepth 100000 in
theorem mtX6_shut (l : Launch) (D : va_G) (k : Nat → ClassId) (a : Nat → Nat) (Z : zZ) (hOK : zOK D zCl (zTys k) Z) (t : Tw) (r : Int32) (tt : Tw) (hrun : fX6_shut t = some (r, tt)) :
    CtW l yX6_shut cX6_shut 3 (some .int) rX6_shut Z D zCl (cT k a t) [.ref (a 0)] (fun r' w' => r' = (some (.int r)) ∧ w' = cT k a tt) 0 0 := by
  refine CtW.of (by decide) (Nat.le_of_ble_eq_true rfl) ?_
  intro p e s m args below meth c A hE hA hP hD hS hz ls hl
  obtain ⟨hx, hb, hr, hml, hown, hts, hlocks, hname⟩ := hE
  have hown : s.vm.findClass RX6 = some m.cls := hown
  have hK := hOK.1 _ _ _ hz
  have hl : lv_has ls 3 [(0, .ref (a 0))] := hl
  unfold fX6_shut at hrun
  refine lv_aload_n hx hb dX6_shut_0 rfl (lv_at hl 0 rfl) ?_
  refine lv_iconst (v := (0 : Int32)) hx hb dX6_shut_1 (by decide) ?_
  refine va_put (ci := 0) (v := .int (0 : Int32)) (ty := tyX6 0) (C := RX6) (T := TX6) (N := 22) hx hb hts in_X6 tyX6 tyX6_ok nmX6 hown hK hP hD hS 0 rfl rfl 0 (by decide) (hts _ q1902) (fun _ h9 => h9) rfl (tyX6_ok 0 (by decide)) rfl rfl (Nat.le_of_ble_eq_true rfl) dX6_shut_2 (fun H locs hP hD hS => ?_)
  have hP : va_P D zCl (cT k a (tw_s_thrown t (0 : Int32))) H := hP
  have hD : va_D A (cT k a (tw_s_thrown t (0 : Int32))) := hD
  obtain ⟨t_1, et_1⟩ : ∃ z : Tw, z = (tw_s_thrown t (0 : Int32)) := ⟨_, rfl⟩
  rw [← et_1] at hP hD
  have hrun := mlt_s hrun t_1 et_1
  refine lv_iconst (v := (-1 : Int32)) hx hb dX6_shut_5 (by decide) ?_
  refine lv_istore_n (lv' := [(1, .int (-1 : Int32)), (0, .ref (a 0))]) hx hb dX6_shut_6 rfl hl (by decide) rfl (fun ls hl => ?_)
  refine lv_iconst (v := (0 : Int32)) hx hb dX6_shut_7 (by decide) ?_
  refine lv_istore_n (lv' := [(2, .int (0 : Int32)), (1, .int (-1 : Int32)), (0, .ref (a 0))]) hx hb dX6_shut_8 rfl hl (by decide) rfl (fun ls hl => ?_)
  have hL_2 : ∀ n : Nat, ∀ (x1_3 : Int32) (x2_4 : Int32), ∀ (H : Heap) (locs : List Loc), va_P D zCl (cT k a t_1) H → va_D A (cT k a t_1) → va_S A s.heap H locs → ∀ ls : Array Slot, lv_has ls 3 [(0, .ref (a 0)), (1, .int x1_3), (2, .int x2_4)] → fX6_shut_L9 t_1 n x1_3 x2_4 = some (r, tt) → W p l e rX6_shut s m args below meth c H locs 0 0 (MQ below (QWr (fun r' w' => r' = (some (.int r)) ∧ w' = cT k a tt) D zCl A) args s 0 0 A) (F0 m 9 ls []) := by
    intro n
    induction n with
    | zero =>
      intro x1_3 x2_4 H locs hP hD hS ls hl hrun
      exact nomatch hrun
    | succ n ih =>
      intro x1_3 x2_4 H locs hP hD hS ls hl hrun
      rw [fX6_shut_L9.eq_2] at hrun
      refine lv_iload_n hx hb dX6_shut_9 rfl (lv_at hl 2 rfl) ?_
      refine lv_sipush (v := (256 : Int32)) hx hb dX6_shut_10 (by decide) ?_
      refine lv_icmp_ge (tgt := 48) hx hb dX6_shut_13 (by decide) (fun c_5 => ?_) (fun c_5 => ?_)
      · have hrun := mif_p c_5 hrun
        refine lv_iload_n hx hb dX6_shut_48 rfl (lv_at hl 1 rfl) ?_
        cases hrun
        exact retW_i hx hb hr hlocks hP hD hS ⟨rfl, rfl⟩ dX6_shut_49
      have hrun := mif_n c_5 hrun
      refine lv_iload_n hx hb dX6_shut_16 rfl (lv_at hl 1 rfl) ?_
      refine lv_iconst (v := (-1 : Int32)) hx hb dX6_shut_17 (by decide) ?_
      refine lv_icmp_eq (tgt := 32) hx hb dX6_shut_18 (by decide) (fun c_6 => ?_) (fun c_6 => ?_)
      · have hrun := mif_p c_6 hrun
        refine lv_aload_n hx hb dX6_shut_32 rfl (lv_at hl 0 rfl) ?_
        refine lv_iload_n hx hb dX6_shut_33 rfl (lv_at hl 2 rfl) ?_
        obtain ⟨r_8, hc_7, hrun⟩ := mob_s rfl hrun
        refine cRV (As := [.int x2_4]) (ci := 0) ⟨hx, hb, hml, hown, hts⟩ hOK hz hS hP (mtX6_shuts l D k a Z hOK _ _ _ hc_7) (kX6_shuts hts q2330 rfl rfl ⟨Nat.le_of_ble_eq_true rfl, Nat.le_of_ble_eq_true rfl⟩) 0 rfl rfl rfl hl.1 rfl (lv_room (Nat.le_of_ble_eq_true rfl)) ⟨Nat.le_of_ble_eq_true rfl, Nat.le_of_ble_eq_true rfl⟩ dX6_shut_34 ?_
        refine lv_if_eq (tgt := 42) hx hb dX6_shut_37 (by decide) (fun c_9 => ?_) (fun c_9 => ?_)
        · have hrun := mif_n (bz_z c_9) hrun
          refine lv_iinc (v := (x2_4 + (1 : Int32))) (lv' := [(2, .int (x2_4 + (1 : Int32))), (0, .ref (a 0)), (1, .int x1_3)]) hx hb dX6_shut_42 hl (k := 2) rfl rfl (by decide) rfl (fun ls hl => ?_)
          refine lv_goto (tgt := 9) hx hb dX6_shut_45 (by decide) ?_
          exact ih x1_3 (x2_4 + (1 : Int32)) _ _ hP hD hS ls (lv_sub hl [1, 2, 0] rfl) hrun
        have hrun := mif_p (bz_nz c_9) hrun
        refine lv_iload_n hx hb dX6_shut_40 rfl (lv_at hl 2 rfl) ?_
        refine lv_istore_n (lv' := [(1, .int x2_4), (0, .ref (a 0)), (2, .int x2_4)]) hx hb dX6_shut_41 rfl hl (by decide) rfl (fun ls hl => ?_)
        refine lv_iinc (v := (x2_4 + (1 : Int32))) (lv' := [(2, .int (x2_4 + (1 : Int32))), (1, .int x2_4), (0, .ref (a 0))]) hx hb dX6_shut_42 hl (k := 2) rfl rfl (by decide) rfl (fun ls hl => ?_)
        refine lv_goto (tgt := 9) hx hb dX6_shut_45 (by decide) ?_
        exact ih x2_4 (x2_4 + (1 : Int32)) _ _ hP hD hS ls (lv_sub hl [2, 1, 0] rfl) hrun
      have hrun := mif_n c_6 hrun
      refine lv_iload_n hx hb dX6_shut_21 rfl (lv_at hl 2 rfl) ?_
      obtain ⟨r_11, hc_10, hrun⟩ := mob_s rfl hrun
      refine cRS (ws := []) (As := [.int x2_4]) ⟨hx, hb, hml, hown, hts⟩ hOK hz hS zP0 (mtX6_bits l D Z hOK _ _ hc_10) (kX6_bits hts q2148 rfl rfl ⟨Nat.le_of_ble_eq_true rfl, Nat.le_of_ble_eq_true rfl⟩) rfl hl.1 rfl (lv_room (Nat.le_of_ble_eq_true rfl)) ⟨Nat.le_of_ble_eq_true rfl, Nat.le_of_ble_eq_true rfl⟩ dX6_shut_22 ?_
      refine lv_iload_n hx hb dX6_shut_25 rfl (lv_at hl 1 rfl) ?_
      obtain ⟨r_13, hc_12, hrun⟩ := mob_s rfl hrun
      refine cRS (ws := []) (As := [.int x1_3]) ⟨hx, hb, hml, hown, hts⟩ hOK hz hS zP0 (mtX6_bits l D Z hOK _ _ hc_12) (kX6_bits hts q2148 rfl rfl ⟨Nat.le_of_ble_eq_true rfl, Nat.le_of_ble_eq_true rfl⟩) rfl hl.1 rfl (lv_room (Nat.le_of_ble_eq_true rfl)) ⟨Nat.le_of_ble_eq_true rfl, Nat.le_of_ble_eq_true rfl⟩ dX6_shut_26 ?_
      refine lv_icmp_ge (tgt := 42) hx hb dX6_shut_29 (by decide) (fun c_14 => ?_) (fun c_14 => ?_)
      · have hrun := mif_p c_14 hrun
        refine lv_iinc (v := (x2_4 + (1 : Int32))) (lv' := [(2, .int (x2_4 + (1 : Int32))), (0, .ref (a 0)), (1, .int x1_3)]) hx hb dX6_shut_42 hl (k := 2) rfl rfl (by decide) rfl (fun ls hl => ?_)
        refine lv_goto (tgt := 9) hx hb dX6_shut_45 (by decide) ?_
        exact ih x1_3 (x2_4 + (1 : Int32)) _ _ hP hD hS ls (lv_sub hl [1, 2, 0] rfl) hrun
      have hrun := mif_n c_14 hrun
      refine lv_aload_n hx hb dX6_shut_32 rfl (lv_at hl 0 rfl) ?_
      refine lv_iload_n hx hb dX6_shut_33 rfl (lv_at hl 2 rfl) ?_
      obtain ⟨r_16, hc_15, hrun⟩ := mob_s rfl hrun
      refine cRV (As := [.int x2_4]) (ci := 0) ⟨hx, hb, hml, hown, hts⟩ hOK hz hS hP (mtX6_shuts l D k a Z hOK _ _ _ hc_15) (kX6_shuts hts q2330 rfl rfl ⟨Nat.le_of_ble_eq_true rfl, Nat.le_of_ble_eq_true rfl⟩) 0 rfl rfl rfl hl.1 rfl (lv_room (Nat.le_of_ble_eq_true rfl)) ⟨Nat.le_of_ble_eq_true rfl, Nat.le_of_ble_eq_true rfl⟩ dX6_shut_34 ?_
      refine lv_if_eq (tgt := 42) hx hb dX6_shut_37 (by decide) (fun c_17 => ?_) (fun c_17 => ?_)
      · have hrun := mif_n (bz_z c_17) hrun
        refine lv_iinc (v := (x2_4 + (1 : Int32))) (lv' := [(2, .int (x2_4 + (1 : Int32))), (0, .ref (a 0)), (1, .int x1_3)]) hx hb dX6_shut_42 hl (k := 2) rfl rfl (by decide) rfl (fun ls hl => ?_)
        refine lv_goto (tgt := 9) hx hb dX6_shut_45 (by decide) ?_
        exact ih x1_3 (x2_4 + (1 : Int32)) _ _ hP hD hS ls (lv_sub hl [1, 2, 0] rfl) hrun
      have hrun := mif_p (bz_nz c_17) hrun
      refine lv_iload_n hx hb dX6_shut_40 rfl (lv_at hl 2 rfl) ?_
      refine lv_istore_n (lv' := [(1, .int x2_4), (0, .ref (a 0)), (2, .int x2_4)]) hx hb dX6_shut_41 rfl hl (by decide) rfl (fun ls hl => ?_)
      refine lv_iinc (v := (x2_4 + (1 : Int32))) (lv' := [(2, .int (x2_4 + (1 : Int32))), (1, .int x2_4), (0, .ref (a 0))]) hx hb dX6_shut_42 hl (k := 2) rfl rfl (by decide) rfl (fun ls hl => ?_)
      refine lv_goto (tgt := 9) hx hb dX6_shut_45 (by decide) ?_
      exact ih x2_4 (x2_4 + (1 : Int32)) _ _ hP hD hS ls (lv_sub hl [2, 1, 0] rfl) hrun
  exact hL_2 mFU (-1 : Int32) (0 : Int32) _ _ hP hD hS ls (lv_sub hl [2, 1, 0] rfl) hrun
def rX6_shifts : Room := { frames := 1, cells := 0, slots := 0, locals := 25 }
noncomputable def fX6_shifts (t : Tw) : Option (Int32 × Tw) :=
  mo2 (fX6_heard t (7 : Int32)) fun r_3 t_2 =>
  mjn (fun (y_6 : Bool) =>
  mlt (tw_s_thrown t_2 (bz y_6)) fun t_8 =>
  if (tw_thrown t_8) ≤ (0 : Int32) then
    mob (fX6_shiftsBy t_8 r_3) fun r_11 =>
    some (r_11, t_8)
  else
    some ((0 : Int32), t_8)) fun K_7 =>
  if r_3 = (-1 : Int32) then
    K_7 true
  else
    K_7 false
theorem kX6_shifts {R : Room} {s : State} {args : Array Value} {own : String} {idx mc ms : Nat} {rm : Room} (hts : ∀ w ∈ lw_all, w.before args s = true) (hl : Cond.methodLink own idx yX6_shifts ∈ lw_all) (hrc : rm.cells = mc) (hrs : rm.slots = ms) (hR : rm.frames + 1 ≤ R.frames ∧ 8 + (2 + 11) + rm.locals ≤ R.locals) : CallW R s args own RX6 idx yX6_shifts cX6_shifts 2 (some .int) (ws_ yX6_shifts cX6_shifts 2 (some .int)) rm mc ms 0 :=
  cwV 0 hts (lw_V hl q2368 q2369 q115 q2370) rfl hrc hrs (by decide +kernel) hR
set_option maxHeartbeats 4000000 in
set_option maxRecDepth 100000 in
theorem mtX6_shifts (l : Launch) (D : va_G) (k : Nat → ClassId) (a : Nat → Nat) (Z : zZ) (hOK : zOK D zCl (zTys k) Z) (t : Tw) (r : Int32) (tt : Tw) (hrun : fX6_shifts t = some (r, tt)) :
    CtW l yX6_shifts cX6_shifts 2 (some .int) rX6_shifts Z D zCl (cT k a t) [.ref (a 0)] (fun r' w' => r' = (some (.int r)) ∧ w' = cT k a tt) 0 0 := by
  refine CtW.of (by decide) (Nat.le_of_ble_eq_true rfl) ?_
  intro p e s m args below meth c A hE hA hP hD hS hz ls hl
  obtain ⟨hx, hb, hr, hml, hown, hts, hlocks, hname⟩ := hE
  have hown : s.vm.findClass RX6 = some m.cls := hown
  have hK := hOK.1 _ _ _ hz
  have hl : lv_has ls 2 [(0, .ref (a 0))] := hl
  unfold fX6_shifts at hrun
  refine lv_aload_n hx hb dX6_shifts_0 rfl (lv_at hl 0 rfl) ?_
  refine lv_bipush (v := (7 : Int32)) hx hb dX6_shifts_1 (by decide) ?_
  obtain ⟨r_3, t_2, hc_1, hrun⟩ := mo2_s rfl hrun
  refine cWV00 (As := [.int (7 : Int32)]) (ci := 0) ⟨hx, hb, hml, hown, hts⟩ hOK hz hS hA hP hD (mtX6_heard l D k a Z hOK _ _ _ _ hc_1) (kX6_heard hts q2371 rfl rfl ⟨Nat.le_of_ble_eq_true rfl, Nat.le_of_ble_eq_true rfl⟩) 0 rfl rfl rfl hl.1 rfl (lv_room (Nat.le_of_ble_eq_true rfl)) ⟨Nat.le_of_ble_eq_true rfl, Nat.le_of_ble_eq_true rfl⟩ dX6_shifts_3 (fun r_ w_ H locs hq hP hD hS => ?_)
  obtain ⟨rfl, rfl⟩ := hq
  refine lv_istore_n (lv' := [(1, .int r_3), (0, .ref (a 0))]) hx hb dX6_shifts_6 rfl hl (by decide) rfl (fun ls hl => ?_)
  refine lv_aload_n hx hb dX6_shifts_7 rfl (lv_at hl 1 rfl) ?_
  refine lv_iload_n hx hb dX6_shifts_8 rfl (lv_at hl 0 rfl) ?_
  refine lv_iconst (v := (-1 : Int32)) hx hb dX6_shifts_9 (by decide) ?_
  obtain ⟨K_7, hK_7, hrun⟩ := mjn_s hrun
  have hj_5 : ∀ (y_6 : Bool), ∀ (H : Heap) (locs : List Loc), va_P D zCl (cT k a t_2) H → va_D A (cT k a t_2) → va_S A s.heap H locs → ∀ ls : Array Slot, lv_has ls 2 [(0, .ref (a 0)), (1, .int r_3)] → K_7 y_6 = some (r, tt) → W p l e rX6_shifts s m args below meth c H locs 0 0 (MQ below (QWr (fun r' w' => r' = (some (.int r)) ∧ w' = cT k a tt) D zCl A) args s 0 0 A) (F0 m 18 ls [.int (bz y_6), .ref (a 0)]) := by
    intro y_6 H locs hP hD hS ls hl hrun
    rw [hK_7] at hrun
    refine va_put (ci := 0) (v := .int (bz y_6)) (ty := tyX6 0) (C := RX6) (T := TX6) (N := 22) hx hb hts in_X6 tyX6 tyX6_ok nmX6 hown hK hP hD hS 0 rfl rfl 0 (by decide) (hts _ q1902) (fun _ h9 => h9) rfl (tyX6_ok 0 (by decide)) rfl rfl (Nat.le_of_ble_eq_true rfl) dX6_shifts_18 (fun H locs hP hD hS => ?_)
    have hP : va_P D zCl (cT k a (tw_s_thrown t_2 (bz y_6))) H := hP
    have hD : va_D A (cT k a (tw_s_thrown t_2 (bz y_6))) := hD
    obtain ⟨t_8, et_8⟩ : ∃ z : Tw, z = (tw_s_thrown t_2 (bz y_6)) := ⟨_, rfl⟩
    rw [← et_8] at hP hD
    have hrun := mlt_s hrun t_8 et_8
    refine lv_aload_n hx hb dX6_shifts_21 rfl (lv_at hl 0 rfl) ?_
    refine va_get (ci := 0) (v := .int (tw_thrown t_8)) (C := RX6) (T := TX6) (N := 22) hx hb hts in_X6 hown hK hP 0 rfl rfl 0 (by decide) (hts _ q1902) (fun _ h9 => h9) rfl dX6_shifts_22 ?_
    refine lv_if_le (tgt := 32) hx hb dX6_shifts_25 (by decide) (fun c_9 => ?_) (fun c_9 => ?_)
    · have hrun := mif_p c_9 hrun
      refine lv_aload_n hx hb dX6_shifts_32 rfl (lv_at hl 0 rfl) ?_
      refine lv_iload_n hx hb dX6_shifts_33 rfl (lv_at hl 1 rfl) ?_
      obtain ⟨r_11, hc_10, hrun⟩ := mob_s rfl hrun
      refine cRV (As := [.int r_3]) (ci := 0) ⟨hx, hb, hml, hown, hts⟩ hOK hz hS hP (mtX6_shiftsBy l D k a Z hOK _ _ _ hc_10) (kX6_shiftsBy hts q2375 rfl rfl ⟨Nat.le_of_ble_eq_true rfl, Nat.le_of_ble_eq_true rfl⟩) 0 rfl rfl rfl hl.1 rfl (lv_room (Nat.le_of_ble_eq_true rfl)) ⟨Nat.le_of_ble_eq_true rfl, Nat.le_of_ble_eq_true rfl⟩ dX6_shifts_34 ?_
      cases hrun
      exact retW_i hx hb hr hlocks hP hD hS ⟨rfl, rfl⟩ dX6_shifts_37
    have hrun := mif_n c_9 hrun
    refine lv_iconst (v := (0 : Int32)) hx hb dX6_shifts_28 (by decide) ?_
    refine lv_goto (tgt := 37) hx hb dX6_shifts_29 (by decide) ?_
    cases hrun
    exact retW_i hx hb hr hlocks hP hD hS ⟨rfl, rfl⟩ dX6_shifts_37
  refine lv_icmp_ne (tgt := 17) hx hb dX6_shifts_10 (by decide) (fun c_4 => ?_) (fun c_4 => ?_)
  · have hrun := mif_n c_4 hrun
    refine lv_iconst (v := (0 : Int32)) hx hb dX6_shifts_17 (by decide) ?_
    exact hj_5 false _ _ hP hD hS ls (lv_sub hl [1, 0] rfl) hrun
  have hrun := mif_p c_4 hrun
  refine lv_iconst (v := (1 : Int32)) hx hb dX6_shifts_13 (by decide) ?_
  refine lv_goto (tgt := 18) hx hb dX6_shifts_14 (by decide) ?_
  exact hj_5 true _ _ hP hD hS ls (lv_sub hl [1, 0] rfl) hrun
def rX6_bored : Room := { frames := 1, cells := 0, slots := 0, locals := 24 }
noncomputable def fX6_bored_L45 (t_11 : Tw) : Nat → Int32 → Option (Int32 × Tw)
  | 0, _ => none
  | n + 1, x4_15 =>
    if (52 : Int32) ≤ x4_15 then
      some ((-1 : Int32), t_11)
    else
      mck x4_15 52 <|
      if ((tw_fits t_11) (Int32.toNatClampNeg x4_15)) = true then
        some (x4_15, t_11)
      else
        fX6_bored_L45 t_11 n (x4_15 + (1 : Int32))
noncomputable def fX6_bored (t : Tw) (p1 : Bool) : Option (Int32 × Tw) :=
  mo2 (fX6_heard t (52 : Int32)) fun r_3 t_2 =>
  mjn (fun (y_6 : Bool) =>
  mlt (tw_s_thrown t_2 (bz y_6)) fun t_8 =>
  if (tw_thrown t_8) ≤ (0 : Int32) then
    mo2 (fX6_weeksBy t_8 r_3) fun r_12 t_11 =>
    if p1 = true then
      fX6_bored_L45 t_11 mFU (0 : Int32)
    else
      some (r_12, t_11)
  else
    some ((0 : Int32), t_8)) fun K_7 =>
  if r_3 = (-1 : Int32) then
    K_7 true
  else
    K_7 false
theorem kX6_bored {R : Room} {s : State} {args : Array Value} {own : String} {idx mc ms : Nat} {rm : Room} (hts : ∀ w ∈ lw_all, w.before args s = true) (hl : Cond.methodLink own idx yX6_bored ∈ lw_all) (hrc : rm.cells = mc) (hrs : rm.slots = ms) (hR : rm.frames + 1 ≤ R.frames ∧ 8 + (5 + 11) + rm.locals ≤ R.locals) : CallW R s args own RX6 idx yX6_bored cX6_bored 5 (some .int) (ws_ yX6_bored cX6_bored 5 (some .int)) rm mc ms 1 :=
  cwV 1 hts (lw_V hl q2384 q2385 q115 q2386) rfl hrc hrs (by decide +kernel) hR
set_option maxHeartbeats 4000000 in
set_option maxRecDepth 100000 in
theorem mtX6_bored (l : Launch) (D : va_G) (k : Nat → ClassId) (a : Nat → Nat) (Z : zZ) (hOK : zOK D zCl (zTys k) Z) (t : Tw) (p1 : Bool) (r : Int32) (tt : Tw) (hrun : fX6_bored t p1 = some (r, tt)) :
    CtW l yX6_bored cX6_bored 5 (some .int) rX6_bored Z D zCl (cT k a t) [.ref (a 0), .int (bz p1)] (fun r' w' => r' = (some (.int r)) ∧ w' = cT k a tt) 0 0 := by
  refine CtW.of (by decide) (Nat.le_of_ble_eq_true rfl) ?_
  intro p e s m args below meth c A hE hA hP hD hS hz ls hl
  obtain ⟨hx, hb, hr, hml, hown, hts, hlocks, hname⟩ := hE
  have hown : s.vm.findClass RX6 = some m.cls := hown
  have hK := hOK.1 _ _ _ hz
  have hl : lv_has ls 5 [(0, .ref (a 0)), (1, .int (bz p1))] := hl
  unfold fX6_bored at hrun
  refine lv_aload_n hx hb dX6_bored_0 rfl (lv_at hl 0 rfl) ?_
  refine lv_bipush (v := (52 : Int32)) hx hb dX6_bored_1 (by decide) ?_
  obtain ⟨r_3, t_2, hc_1, hrun⟩ := mo2_s rfl hrun
  refine cWV00 (As := [.int (52 : Int32)]) (ci := 0) ⟨hx, hb, hml, hown, hts⟩ hOK hz hS hA hP hD (mtX6_heard l D k a Z hOK _ _ _ _ hc_1) (kX6_heard hts q2371 rfl rfl ⟨Nat.le_of_ble_eq_true rfl, Nat.le_of_ble_eq_true rfl⟩) 0 rfl rfl rfl hl.1 rfl (lv_room (Nat.le_of_ble_eq_true rfl)) ⟨Nat.le_of_ble_eq_true rfl, Nat.le_of_ble_eq_true rfl⟩ dX6_bored_3 (fun r_ w_ H locs hq hP hD hS => ?_)
  obtain ⟨rfl, rfl⟩ := hq
  refine lv_istore_n (lv' := [(2, .int r_3), (0, .ref (a 0)), (1, .int (bz p1))]) hx hb dX6_bored_6 rfl hl (by decide) rfl (fun ls hl => ?_)
  refine lv_aload_n hx hb dX6_bored_7 rfl (lv_at hl 1 rfl) ?_
  refine lv_iload_n hx hb dX6_bored_8 rfl (lv_at hl 0 rfl) ?_
  refine lv_iconst (v := (-1 : Int32)) hx hb dX6_bored_9 (by decide) ?_
  obtain ⟨K_7, hK_7, hrun⟩ := mjn_s hrun
  have hj_5 : ∀ (y_6 : Bool), ∀ (H : Heap) (locs : List Loc), va_P D zCl (cT k a t_2) H → va_D A (cT k a t_2) → va_S A s.heap H locs → ∀ ls : Array Slot, lv_has ls 5 [(0, .ref (a 0)), (1, .int (bz p1)), (2, .int r_3)] → K_7 y_6 = some (r, tt) → W p l e rX6_bored s m args below meth c H locs 0 0 (MQ below (QWr (fun r' w' => r' = (some (.int r)) ∧ w' = cT k a tt) D zCl A) args s 0 0 A) (F0 m 18 ls [.int (bz y_6), .ref (a 0)]) := by
    intro y_6 H locs hP hD hS ls hl hrun
    rw [hK_7] at hrun
    refine va_put (ci := 0) (v := .int (bz y_6)) (ty := tyX6 0) (C := RX6) (T := TX6) (N := 22) hx hb hts in_X6 tyX6 tyX6_ok nmX6 hown hK hP hD hS 0 rfl rfl 0 (by decide) (hts _ q1902) (fun _ h9 => h9) rfl (tyX6_ok 0 (by decide)) rfl rfl (Nat.le_of_ble_eq_true rfl) dX6_bored_18 (fun H locs hP hD hS => ?_)
    have hP : va_P D zCl (cT k a (tw_s_thrown t_2 (bz y_6))) H := hP
    have hD : va_D A (cT k a (tw_s_thrown t_2 (bz y_6))) := hD
    obtain ⟨t_8, et_8⟩ : ∃ z : Tw, z = (tw_s_thrown t_2 (bz y_6)) := ⟨_, rfl⟩
    rw [← et_8] at hP hD
    have hrun := mlt_s hrun t_8 et_8
    refine lv_aload_n hx hb dX6_bored_21 rfl (lv_at hl 0 rfl) ?_
    refine va_get (ci := 0) (v := .int (tw_thrown t_8)) (C := RX6) (T := TX6) (N := 22) hx hb hts in_X6 hown hK hP 0 rfl rfl 0 (by decide) (hts _ q1902) (fun _ h9 => h9) rfl dX6_bored_22 ?_
    refine lv_if_le (tgt := 30) hx hb dX6_bored_25 (by decide) (fun c_9 => ?_) (fun c_9 => ?_)
    · have hrun := mif_p c_9 hrun
      refine lv_aload_n hx hb dX6_bored_30 rfl (lv_at hl 0 rfl) ?_
      refine lv_iload_n hx hb dX6_bored_31 rfl (lv_at hl 2 rfl) ?_
      obtain ⟨r_12, t_11, hc_10, hrun⟩ := mo2_s rfl hrun
      refine cWV00 (As := [.int r_3]) (ci := 0) ⟨hx, hb, hml, hown, hts⟩ hOK hz hS hA hP hD (mtX6_weeksBy l D k a Z hOK _ _ _ _ hc_10) (kX6_weeksBy hts q2387 rfl rfl ⟨Nat.le_of_ble_eq_true rfl, Nat.le_of_ble_eq_true rfl⟩) 0 rfl rfl rfl hl.1 rfl (lv_room (Nat.le_of_ble_eq_true rfl)) ⟨Nat.le_of_ble_eq_true rfl, Nat.le_of_ble_eq_true rfl⟩ dX6_bored_32 (fun r_ w_ H locs hq hP hD hS => ?_)
      obtain ⟨rfl, rfl⟩ := hq
      refine lv_istore_n (lv' := [(3, .int r_12), (0, .ref (a 0)), (1, .int (bz p1)), (2, .int r_3)]) hx hb dX6_bored_35 rfl hl (by decide) rfl (fun ls hl => ?_)
      refine lv_iload_n hx hb dX6_bored_36 rfl (lv_at hl 2 rfl) ?_
      refine lv_if_ne (tgt := 42) hx hb dX6_bored_37 (by decide) (fun c_13 => ?_) (fun c_13 => ?_)
      · have hrun := mif_p (bz_nz c_13) hrun
        refine lv_iconst (v := (0 : Int32)) hx hb dX6_bored_42 (by decide) ?_
        refine lv_istore (lv' := [(4, .int (0 : Int32)), (3, .int r_12), (0, .ref (a 0)), (1, .int (bz p1)), (2, .int r_3)]) hx hb dX6_bored_43 hl (by decide) rfl (fun ls hl => ?_)
        have hL_14 : ∀ n : Nat, ∀ (x4_15 : Int32), ∀ (H : Heap) (locs : List Loc), va_P D zCl (cT k a t_11) H → va_D A (cT k a t_11) → va_S A s.heap H locs → ∀ ls : Array Slot, lv_has ls 5 [(0, .ref (a 0)), (4, .int x4_15)] → fX6_bored_L45 t_11 n x4_15 = some (r, tt) → W p l e rX6_bored s m args below meth c H locs 0 0 (MQ below (QWr (fun r' w' => r' = (some (.int r)) ∧ w' = cT k a tt) D zCl A) args s 0 0 A) (F0 m 45 ls []) := by
          intro n
          induction n with
          | zero =>
            intro x4_15 H locs hP hD hS ls hl hrun
            exact nomatch hrun
          | succ n ih =>
            intro x4_15 H locs hP hD hS ls hl hrun
            rw [fX6_bored_L45.eq_2] at hrun
            refine lv_iload hx hb dX6_bored_45 (lv_at hl 1 rfl) ?_
            refine lv_bipush (v := (52 : Int32)) hx hb dX6_bored_47 (by decide) ?_
            refine lv_icmp_ge (tgt := 71) hx hb dX6_bored_49 (by decide) (fun c_16 => ?_) (fun c_16 => ?_)
            · have hrun := mif_p c_16 hrun
              refine lv_iconst (v := (-1 : Int32)) hx hb dX6_bored_71 (by decide) ?_
              cases hrun
              exact retW_i hx hb hr hlocks hP hD hS ⟨rfl, rfl⟩ dX6_bored_72
            have hrun := mif_n c_16 hrun
            refine lv_aload_n hx hb dX6_bored_52 rfl (lv_at hl 0 rfl) ?_
            refine va_get (ci := 0) (v := .ref (a 9)) (C := RX6) (T := TX6) (N := 22) hx hb hts in_X6 hown hK hP 0 rfl rfl 21 (by decide) (hts _ q1923) (fun _ h9 => h9) rfl dX6_bored_53 ?_
            refine lv_iload hx hb dX6_bored_56 (lv_at hl 1 rfl) ?_
            obtain ⟨hb_17, hrun⟩ := mck_s rfl hrun
            refine va_zald hx hb hK hP 9 1 rfl rfl hb_17 dX6_bored_58 ?_
            refine lv_if_eq (tgt := 65) hx hb dX6_bored_59 (by decide) (fun c_18 => ?_) (fun c_18 => ?_)
            · have hrun := mif_n (bz_z c_18) hrun
              refine lv_iinc (v := (x4_15 + (1 : Int32))) (lv' := [(4, .int (x4_15 + (1 : Int32))), (0, .ref (a 0))]) hx hb dX6_bored_65 hl (k := 1) rfl rfl (by decide) rfl (fun ls hl => ?_)
              refine lv_goto (tgt := 45) hx hb dX6_bored_68 (by decide) ?_
              exact ih (x4_15 + (1 : Int32)) _ _ hP hD hS ls (lv_sub hl [1, 0] rfl) hrun
            have hrun := mif_p (bz_nz c_18) hrun
            refine lv_iload hx hb dX6_bored_62 (lv_at hl 1 rfl) ?_
            cases hrun
            exact retW_i hx hb hr hlocks hP hD hS ⟨rfl, rfl⟩ dX6_bored_64
        exact hL_14 mFU (0 : Int32) _ _ hP hD hS ls (lv_sub hl [2, 0] rfl) hrun
      have hrun := mif_n (bz_z c_13) hrun
      refine lv_iload_n hx hb dX6_bored_40 rfl (lv_at hl 0 rfl) ?_
      cases hrun
      exact retW_i hx hb hr hlocks hP hD hS ⟨rfl, rfl⟩ dX6_bored_41
    have hrun := mif_n c_9 hrun
    refine lv_iconst (v := (0 : Int32)) hx hb dX6_bored_28 (by decide) ?_
    cases hrun
    exact retW_i hx hb hr hlocks hP hD hS ⟨rfl, rfl⟩ dX6_bored_29
  refine lv_icmp_ne (tgt := 17) hx hb dX6_bored_10 (by decide) (fun c_4 => ?_) (fun c_4 => ?_)
  · have hrun := mif_n c_4 hrun
    refine lv_iconst (v := (0 : Int32)) hx hb dX6_bored_17 (by decide) ?_
    exact hj_5 false _ _ hP hD hS ls (lv_sub hl [1, 2, 0] rfl) hrun
  have hrun := mif_p c_4 hrun
  refine lv_iconst (v := (1 : Int32)) hx hb dX6_bored_13 (by decide) ?_
  refine lv_goto (tgt := 18) hx hb dX6_bored_14 (by decide) ?_
  exact hj_5 true _ _ hP hD hS ls (lv_sub hl [1, 2, 0] rfl) hrun
def rX6_well : Room := { frames := 3, cells := 0, slots := 0, locals := 66 }
noncomputable def fX6_well_L11 (t_1 : Tw) : Nat → Int32 → Int32 → Int32 → Option (Int32 × Tw)
  | 0, _, _, _ => none
  | n + 1, x1_3, x2_4, x3_5 =>
    if (8 : Int32) ≤ x3_5 then
      some (x1_3, t_1)
    else
      mob (fX6_from t_1 x3_5) fun r_8 =>
      mob (fX6_bits r_8) fun r_10 =>
      if x2_4 < r_10 then
        mob (fX6_from t_1 x3_5) fun r_13 =>
        mob (fX6_bits r_13) fun r_15 =>
        fX6_well_L11 t_1 n x3_5 r_15 (x3_5 + (1 : Int32))
      else
        fX6_well_L11 t_1 n x1_3 x2_4 (x3_5 + (1 : Int32))
noncomputable def fX6_well (t : Tw) : Option (Int32 × Tw) :=
  mlt (tw_s_thrown t (0 : Int32)) fun t_1 =>
  fX6_well_L11 t_1 mFU (-1 : Int32) (0 : Int32) (0 : Int32)
theorem kX6_well {R : Room} {s : State} {args : Array Value} {own : String} {idx mc ms : Nat} {rm : Room} (hts : ∀ w ∈ lw_all, w.before args s = true) (hl : Cond.methodLink own idx yX6_well ∈ lw_all) (hrc : rm.cells = mc) (hrs : rm.slots = ms) (hR : rm.frames + 1 ≤ R.frames ∧ 8 + (4 + 11) + rm.locals ≤ R.locals) : CallW R s args own RX6 idx yX6_well cX6_well 4 (some .int) (ws_ yX6_well cX6_well 4 (some .int)) rm mc ms 0 :=
  cwV 0 hts (lw_V hl q2408 q2409 q115 q2410) rfl hrc hrs (by decide +kernel) hR
set_option maxHeartbeats 4000000 in
set_option maxRecDepth 100000 in
theorem mtX6_well (l : Launch) (D : va_G) (k : Nat → ClassId) (a : Nat → Nat) (Z : zZ) (hOK : zOK D zCl (zTys k) Z) (t : Tw) (r : Int32) (tt : Tw) (hrun : fX6_well t = some (r, tt)) :
    CtW l yX6_well cX6_well 4 (some .int) rX6_well Z D zCl (cT k a t) [.ref (a 0)] (fun r' w' => r' = (some (.int r)) ∧ w' = cT k a tt) 0 0 := by
  refine CtW.of (by decide) (Nat.le_of_ble_eq_true rfl) ?_
  intro p e s m args below meth c A hE hA hP hD hS hz ls hl
  obtain ⟨hx, hb, hr, hml, hown, hts, hlocks, hname⟩ := hE
  have hown : s.vm.findClass RX6 = some m.cls := hown
  have hK := hOK.1 _ _ _ hz
  have hl : lv_has ls 4 [(0, .ref (a 0))] := hl
  unfold fX6_well at hrun
  refine lv_aload_n hx hb dX6_well_0 rfl (lv_at hl 0 rfl) ?_
  refine lv_iconst (v := (0 : Int32)) hx hb dX6_well_1 (by decide) ?_
  refine va_put (ci := 0) (v := .int (0 : Int32)) (ty := tyX6 0) (C := RX6) (T := TX6) (N := 22) hx hb hts in_X6 tyX6 tyX6_ok nmX6 hown hK hP hD hS 0 rfl rfl 0 (by decide) (hts _ q1902) (fun _ h9 => h9) rfl (tyX6_ok 0 (by decide)) rfl rfl (Nat.le_of_ble_eq_true rfl) dX6_well_2 (fun H locs hP hD hS => ?_)
  have hP : va_P D zCl (cT k a (tw_s_thrown t (0 : Int32))) H := hP
  have hD : va_D A (cT k a (tw_s_thrown t (0 : Int32))) := hD
  obtain ⟨t_1, et_1⟩ : ∃ z : Tw, z = (tw_s_thrown t (0 : Int32)) := ⟨_, rfl⟩
  rw [← et_1] at hP hD
  have hrun := mlt_s hrun t_1 et_1
  refine lv_iconst (v := (-1 : Int32)) hx hb dX6_well_5 (by decide) ?_
  refine lv_istore_n (lv' := [(1, .int (-1 : Int32)), (0, .ref (a 0))]) hx hb dX6_well_6 rfl hl (by decide) rfl (fun ls hl => ?_)
  refine lv_iconst (v := (0 : Int32)) hx hb dX6_well_7 (by decide) ?_
  refine lv_istore_n (lv' := [(2, .int (0 : Int32)), (1, .int (-1 : Int32)), (0, .ref (a 0))]) hx hb dX6_well_8 rfl hl (by decide) rfl (fun ls hl => ?_)
  refine lv_iconst (v := (0 : Int32)) hx hb dX6_well_9 (by decide) ?_
  refine lv_istore_n (lv' := [(3, .int (0 : Int32)), (2, .int (0 : Int32)), (1, .int (-1 : Int32)), (0, .ref (a 0))]) hx hb dX6_well_10 rfl hl (by decide) rfl (fun ls hl => ?_)
  have hL_2 : ∀ n : Nat, ∀ (x1_3 : Int32) (x2_4 : Int32) (x3_5 : Int32), ∀ (H : Heap) (locs : List Loc), va_P D zCl (cT k a t_1) H → va_D A (cT k a t_1) → va_S A s.heap H locs → ∀ ls : Array Slot, lv_has ls 4 [(0, .ref (a 0)), (1, .int x1_3), (2, .int x2_4), (3, .int x3_5)] → fX6_well_L11 t_1 n x1_3 x2_4 x3_5 = some (r, tt) → W p l e rX6_well s m args below meth c H locs 0 0 (MQ below (QWr (fun r' w' => r' = (some (.int r)) ∧ w' = cT k a tt) D zCl A) args s 0 0 A) (F0 m 11 ls []) := by
    intro n
    induction n with
    | zero =>
      intro x1_3 x2_4 x3_5 H locs hP hD hS ls hl hrun
      exact nomatch hrun
    | succ n ih =>
      intro x1_3 x2_4 x3_5 H locs hP hD hS ls hl hrun
      rw [fX6_well_L11.eq_2] at hrun
      refine lv_iload_n hx hb dX6_well_11 rfl (lv_at hl 3 rfl) ?_
      refine lv_bipush (v := (8 : Int32)) hx hb dX6_well_12 (by decide) ?_
      refine lv_icmp_ge (tgt := 49) hx hb dX6_well_14 (by decide) (fun c_6 => ?_) (fun c_6 => ?_)
      · have hrun := mif_p c_6 hrun
        refine lv_iload_n hx hb dX6_well_49 rfl (lv_at hl 1 rfl) ?_
        cases hrun
        exact retW_i hx hb hr hlocks hP hD hS ⟨rfl, rfl⟩ dX6_well_50
      have hrun := mif_n c_6 hrun
      refine lv_aload_n hx hb dX6_well_17 rfl (lv_at hl 0 rfl) ?_
      refine lv_iload_n hx hb dX6_well_18 rfl (lv_at hl 3 rfl) ?_
      obtain ⟨r_8, hc_7, hrun⟩ := mob_s rfl hrun
      refine cRV (As := [.int x3_5]) (ci := 0) ⟨hx, hb, hml, hown, hts⟩ hOK hz hS hP (mtX6_from l D k a Z hOK _ _ _ hc_7) (kX6_from hts q2185 rfl rfl ⟨Nat.le_of_ble_eq_true rfl, Nat.le_of_ble_eq_true rfl⟩) 0 rfl rfl rfl hl.1 rfl (lv_room (Nat.le_of_ble_eq_true rfl)) ⟨Nat.le_of_ble_eq_true rfl, Nat.le_of_ble_eq_true rfl⟩ dX6_well_19 ?_
      obtain ⟨r_10, hc_9, hrun⟩ := mob_s rfl hrun
      refine cRS (ws := []) (As := [.int r_8]) ⟨hx, hb, hml, hown, hts⟩ hOK hz hS zP0 (mtX6_bits l D Z hOK _ _ hc_9) (kX6_bits hts q2148 rfl rfl ⟨Nat.le_of_ble_eq_true rfl, Nat.le_of_ble_eq_true rfl⟩) rfl hl.1 rfl (lv_room (Nat.le_of_ble_eq_true rfl)) ⟨Nat.le_of_ble_eq_true rfl, Nat.le_of_ble_eq_true rfl⟩ dX6_well_22 ?_
      refine lv_iload_n hx hb dX6_well_25 rfl (lv_at hl 2 rfl) ?_
      refine lv_icmp_gt (tgt := 32) hx hb dX6_well_26 (by decide) (fun c_11 => ?_) (fun c_11 => ?_)
      · have hrun := mif_p c_11 hrun
        refine lv_aload_n hx hb dX6_well_32 rfl (lv_at hl 0 rfl) ?_
        refine lv_iload_n hx hb dX6_well_33 rfl (lv_at hl 3 rfl) ?_
        obtain ⟨r_13, hc_12, hrun⟩ := mob_s rfl hrun
        refine cRV (As := [.int x3_5]) (ci := 0) ⟨hx, hb, hml, hown, hts⟩ hOK hz hS hP (mtX6_from l D k a Z hOK _ _ _ hc_12) (kX6_from hts q2185 rfl rfl ⟨Nat.le_of_ble_eq_true rfl, Nat.le_of_ble_eq_true rfl⟩) 0 rfl rfl rfl hl.1 rfl (lv_room (Nat.le_of_ble_eq_true rfl)) ⟨Nat.le_of_ble_eq_true rfl, Nat.le_of_ble_eq_true rfl⟩ dX6_well_34 ?_
        obtain ⟨r_15, hc_14, hrun⟩ := mob_s rfl hrun
        refine cRS (ws := []) (As := [.int r_13]) ⟨hx, hb, hml, hown, hts⟩ hOK hz hS zP0 (mtX6_bits l D Z hOK _ _ hc_14) (kX6_bits hts q2148 rfl rfl ⟨Nat.le_of_ble_eq_true rfl, Nat.le_of_ble_eq_true rfl⟩) rfl hl.1 rfl (lv_room (Nat.le_of_ble_eq_true rfl)) ⟨Nat.le_of_ble_eq_true rfl, Nat.le_of_ble_eq_true rfl⟩ dX6_well_37 ?_
        refine lv_istore_n (lv' := [(2, .int r_15), (0, .ref (a 0)), (1, .int x1_3), (3, .int x3_5)]) hx hb dX6_well_40 rfl hl (by decide) rfl (fun ls hl => ?_)
        refine lv_iload_n hx hb dX6_well_41 rfl (lv_at hl 3 rfl) ?_
        refine lv_istore_n (lv' := [(1, .int x3_5), (2, .int r_15), (0, .ref (a 0)), (3, .int x3_5)]) hx hb dX6_well_42 rfl hl (by decide) rfl (fun ls hl => ?_)
        refine lv_iinc (v := (x3_5 + (1 : Int32))) (lv' := [(3, .int (x3_5 + (1 : Int32))), (1, .int x3_5), (2, .int r_15), (0, .ref (a 0))]) hx hb dX6_well_43 hl (k := 3) rfl rfl (by decide) rfl (fun ls hl => ?_)
        refine lv_goto (tgt := 11) hx hb dX6_well_46 (by decide) ?_
        exact ih x3_5 r_15 (x3_5 + (1 : Int32)) _ _ hP hD hS ls (lv_sub hl [3, 1, 2, 0] rfl) hrun
      have hrun := mif_n c_11 hrun
      refine lv_goto (tgt := 43) hx hb dX6_well_29 (by decide) ?_
      refine lv_iinc (v := (x3_5 + (1 : Int32))) (lv' := [(3, .int (x3_5 + (1 : Int32))), (0, .ref (a 0)), (1, .int x1_3), (2, .int x2_4)]) hx hb dX6_well_43 hl (k := 3) rfl rfl (by decide) rfl (fun ls hl => ?_)
      refine lv_goto (tgt := 11) hx hb dX6_well_46 (by decide) ?_
      exact ih x1_3 x2_4 (x3_5 + (1 : Int32)) _ _ hP hD hS ls (lv_sub hl [1, 2, 3, 0] rfl) hrun
  exact hL_2 mFU (-1 : Int32) (0 : Int32) (0 : Int32) _ _ hP hD hS ls (lv_sub hl [3, 2, 1, 0] rfl) hrun
def rX6_pass : Room := { frames := 4, cells := 0, slots := 0, locals := 91 }
noncomputable def fX6_pass (t : Tw) (p1 : Int32) (p2 : Int32) : Option (Int32 × Tw) :=
  mob (fX6_isRoom p1) fun r_2 =>
  mjn (fun (y_5 : Bool) =>
  mlt (tw_s_thrown t (bz y_5)) fun t_7 =>
  if (tw_thrown t_7) ≤ (0 : Int32) then
    mob (fX6_round t_7 p1 p2 (1 : Int32)) fun r_10 =>
    mob (fX6_round t_7 p1 p2 (-1 : Int32)) fun r_12 =>
    mob (fX6_lesser r_10 r_12) fun r_14 =>
    if r_14 = (2000000000 : Int32) then
      some ((-1 : Int32), t_7)
    else
      some (r_14, t_7)
  else
    some ((0 : Int32), t_7)) fun K_6 =>
  if r_2 = true then
    mob (fX6_isRoom p2) fun r_17 =>
    if r_17 = true then
      K_6 false
    else
      K_6 true
  else
    K_6 true
theorem kX6_pass {R : Room} {s : State} {args : Array Value} {own : String} {idx mc ms : Nat} {rm : Room} (hts : ∀ w ∈ lw_all, w.before args s = true) (hl : Cond.methodLink own idx yX6_pass ∈ lw_all) (hrc : rm.cells = mc) (hrs : rm.slots = ms) (hR : rm.frames + 1 ≤ R.frames ∧ 8 + (4 + 11) + rm.locals ≤ R.locals) : CallW R s args own RX6 idx yX6_pass cX6_pass 4 (some .int) (ws_ yX6_pass cX6_pass 4 (some .int)) rm mc ms 2 :=
  cwV 2 hts (lw_V hl q2412 q2413 q115 q2414) rfl hrc hrs (by decide +kernel) hR
set_option maxHeartbeats 4000000 in
set_option maxRecDepth 100000 in
theorem mtX6_pass (l : Launch) (D : va_G) (k : Nat → ClassId) (a : Nat → Nat) (Z : zZ) (hOK : zOK D zCl (zTys k) Z) (t : Tw) (p1 : Int32) (p2 : Int32) (r : Int32) (tt : Tw) (hrun : fX6_pass t p1 p2 = some (r, tt)) :
    CtW l yX6_pass cX6_pass 4 (some .int) rX6_pass Z D zCl (cT k a t) [.ref (a 0), .int p1, .int p2] (fun r' w' => r' = (some (.int r)) ∧ w' = cT k a tt) 0 0 := by
  refine CtW.of (by decide) (Nat.le_of_ble_eq_true rfl) ?_
  intro p e s m args below meth c A hE hA hP hD hS hz ls hl
  obtain ⟨hx, hb, hr, hml, hown, hts, hlocks, hname⟩ := hE
  have hown : s.vm.findClass RX6 = some m.cls := hown
  have hK := hOK.1 _ _ _ hz
  have hl : lv_has ls 4 [(0, .ref (a 0)), (1, .int p1), (2, .int p2)] := hl
  unfold fX6_pass at hrun
  refine lv_aload_n hx hb dX6_pass_0 rfl (lv_at hl 0 rfl) ?_
  refine lv_iload_n hx hb dX6_pass_1 rfl (lv_at hl 1 rfl) ?_
  obtain ⟨r_2, hc_1, hrun⟩ := mob_s rfl hrun
  refine cRS (ws := []) (As := [.int p1]) ⟨hx, hb, hml, hown, hts⟩ hOK hz hS zP0 (mtX6_isRoom l D Z hOK _ _ hc_1) (kX6_isRoom hts q2182 rfl rfl ⟨Nat.le_of_ble_eq_true rfl, Nat.le_of_ble_eq_true rfl⟩) rfl hl.1 rfl (lv_room (Nat.le_of_ble_eq_true rfl)) ⟨Nat.le_of_ble_eq_true rfl, Nat.le_of_ble_eq_true rfl⟩ dX6_pass_2 ?_
  obtain ⟨K_6, hK_6, hrun⟩ := mjn_s hrun
  have hj_4 : ∀ (y_5 : Bool), ∀ (H : Heap) (locs : List Loc), va_P D zCl (cT k a t) H → va_D A (cT k a t) → va_S A s.heap H locs → ∀ ls : Array Slot, lv_has ls 4 [(0, .ref (a 0)), (1, .int p1), (2, .int p2)] → K_6 y_5 = some (r, tt) → W p l e rX6_pass s m args below meth c H locs 0 0 (MQ below (QWr (fun r' w' => r' = (some (.int r)) ∧ w' = cT k a tt) D zCl A) args s 0 0 A) (F0 m 20 ls [.int (bz y_5), .ref (a 0)]) := by
    intro y_5 H locs hP hD hS ls hl hrun
    rw [hK_6] at hrun
    refine va_put (ci := 0) (v := .int (bz y_5)) (ty := tyX6 0) (C := RX6) (T := TX6) (N := 22) hx hb hts in_X6 tyX6 tyX6_ok nmX6 hown hK hP hD hS 0 rfl rfl 0 (by decide) (hts _ q1902) (fun _ h9 => h9) rfl (tyX6_ok 0 (by decide)) rfl rfl (Nat.le_of_ble_eq_true rfl) dX6_pass_20 (fun H locs hP hD hS => ?_)
    have hP : va_P D zCl (cT k a (tw_s_thrown t (bz y_5))) H := hP
    have hD : va_D A (cT k a (tw_s_thrown t (bz y_5))) := hD
    obtain ⟨t_7, et_7⟩ : ∃ z : Tw, z = (tw_s_thrown t (bz y_5)) := ⟨_, rfl⟩
    rw [← et_7] at hP hD
    have hrun := mlt_s hrun t_7 et_7
    refine lv_aload_n hx hb dX6_pass_23 rfl (lv_at hl 0 rfl) ?_
    refine va_get (ci := 0) (v := .int (tw_thrown t_7)) (C := RX6) (T := TX6) (N := 22) hx hb hts in_X6 hown hK hP 0 rfl rfl 0 (by decide) (hts _ q1902) (fun _ h9 => h9) rfl dX6_pass_24 ?_
    refine lv_if_le (tgt := 32) hx hb dX6_pass_27 (by decide) (fun c_8 => ?_) (fun c_8 => ?_)
    · have hrun := mif_p c_8 hrun
      refine lv_aload_n hx hb dX6_pass_32 rfl (lv_at hl 0 rfl) ?_
      refine lv_iload_n hx hb dX6_pass_33 rfl (lv_at hl 1 rfl) ?_
      refine lv_iload_n hx hb dX6_pass_34 rfl (lv_at hl 2 rfl) ?_
      refine lv_iconst (v := (1 : Int32)) hx hb dX6_pass_35 (by decide) ?_
      obtain ⟨r_10, hc_9, hrun⟩ := mob_s rfl hrun
      refine cRV (As := [.int p1, .int p2, .int (1 : Int32)]) (ci := 0) ⟨hx, hb, hml, hown, hts⟩ hOK hz hS hP (mtX6_round l D k a Z hOK _ _ _ _ _ hc_9) (kX6_round hts q2415 rfl rfl ⟨Nat.le_of_ble_eq_true rfl, Nat.le_of_ble_eq_true rfl⟩) 0 rfl rfl rfl hl.1 rfl (lv_room (Nat.le_of_ble_eq_true rfl)) ⟨Nat.le_of_ble_eq_true rfl, Nat.le_of_ble_eq_true rfl⟩ dX6_pass_36 ?_
      refine lv_aload_n hx hb dX6_pass_39 rfl (lv_at hl 0 rfl) ?_
      refine lv_iload_n hx hb dX6_pass_40 rfl (lv_at hl 1 rfl) ?_
      refine lv_iload_n hx hb dX6_pass_41 rfl (lv_at hl 2 rfl) ?_
      refine lv_iconst (v := (-1 : Int32)) hx hb dX6_pass_42 (by decide) ?_
      obtain ⟨r_12, hc_11, hrun⟩ := mob_s rfl hrun
      refine cRV (As := [.int p1, .int p2, .int (-1 : Int32)]) (ci := 0) ⟨hx, hb, hml, hown, hts⟩ hOK hz hS hP (mtX6_round l D k a Z hOK _ _ _ _ _ hc_11) (kX6_round hts q2415 rfl rfl ⟨Nat.le_of_ble_eq_true rfl, Nat.le_of_ble_eq_true rfl⟩) 0 rfl rfl rfl hl.1 rfl (lv_room (Nat.le_of_ble_eq_true rfl)) ⟨Nat.le_of_ble_eq_true rfl, Nat.le_of_ble_eq_true rfl⟩ dX6_pass_43 ?_
      obtain ⟨r_14, hc_13, hrun⟩ := mob_s rfl hrun
      refine cRS (ws := []) (As := [.int r_10, .int r_12]) ⟨hx, hb, hml, hown, hts⟩ hOK hz hS zP0 (mtX6_lesser l D Z hOK _ _ _ hc_13) (kX6_lesser hts q2245 rfl rfl ⟨Nat.le_of_ble_eq_true rfl, Nat.le_of_ble_eq_true rfl⟩) rfl hl.1 rfl (lv_room (Nat.le_of_ble_eq_true rfl)) ⟨Nat.le_of_ble_eq_true rfl, Nat.le_of_ble_eq_true rfl⟩ dX6_pass_46 ?_
      refine lv_istore_n (lv' := [(3, .int r_14), (0, .ref (a 0)), (1, .int p1), (2, .int p2)]) hx hb dX6_pass_49 rfl hl (by decide) rfl (fun ls hl => ?_)
      refine lv_iload_n hx hb dX6_pass_50 rfl (lv_at hl 0 rfl) ?_
      refine lv_ldcw (v := (2000000000 : Int32)) hx hb hown (hts _ q2350) dX6_pass_51 ?_
      refine lv_icmp_ne (tgt := 61) hx hb dX6_pass_54 (by decide) (fun c_15 => ?_) (fun c_15 => ?_)
      · have hrun := mif_n c_15 hrun
        refine lv_iload_n hx hb dX6_pass_61 rfl (lv_at hl 0 rfl) ?_
        cases hrun
        exact retW_i hx hb hr hlocks hP hD hS ⟨rfl, rfl⟩ dX6_pass_62
      have hrun := mif_p c_15 hrun
      refine lv_iconst (v := (-1 : Int32)) hx hb dX6_pass_57 (by decide) ?_
      refine lv_goto (tgt := 62) hx hb dX6_pass_58 (by decide) ?_
      cases hrun
      exact retW_i hx hb hr hlocks hP hD hS ⟨rfl, rfl⟩ dX6_pass_62
    have hrun := mif_n c_8 hrun
    refine lv_iconst (v := (0 : Int32)) hx hb dX6_pass_30 (by decide) ?_
    cases hrun
    exact retW_i hx hb hr hlocks hP hD hS ⟨rfl, rfl⟩ dX6_pass_31
  refine lv_if_eq (tgt := 15) hx hb dX6_pass_5 (by decide) (fun c_3 => ?_) (fun c_3 => ?_)
  · have hrun := mif_n (bz_z c_3) hrun
    refine lv_iconst (v := (1 : Int32)) hx hb dX6_pass_15 (by decide) ?_
    refine lv_goto (tgt := 20) hx hb dX6_pass_16 (by decide) ?_
    exact hj_4 true _ _ hP hD hS ls (lv_sub hl [0, 1, 2] rfl) hrun
  have hrun := mif_p (bz_nz c_3) hrun
  refine lv_iload_n hx hb dX6_pass_8 rfl (lv_at hl 2 rfl) ?_
  obtain ⟨r_17, hc_16, hrun⟩ := mob_s rfl hrun
  refine cRS (ws := []) (As := [.int p2]) ⟨hx, hb, hml, hown, hts⟩ hOK hz hS zP0 (mtX6_isRoom l D Z hOK _ _ hc_16) (kX6_isRoom hts q2182 rfl rfl ⟨Nat.le_of_ble_eq_true rfl, Nat.le_of_ble_eq_true rfl⟩) rfl hl.1 rfl (lv_room (Nat.le_of_ble_eq_true rfl)) ⟨Nat.le_of_ble_eq_true rfl, Nat.le_of_ble_eq_true rfl⟩ dX6_pass_9 ?_
  refine lv_if_ne (tgt := 19) hx hb dX6_pass_12 (by decide) (fun c_18 => ?_) (fun c_18 => ?_)
  · have hrun := mif_p (bz_nz c_18) hrun
    refine lv_iconst (v := (0 : Int32)) hx hb dX6_pass_19 (by decide) ?_
    exact hj_4 false _ _ hP hD hS ls (lv_sub hl [0, 1, 2] rfl) hrun
  have hrun := mif_n (bz_z c_18) hrun
  refine lv_iconst (v := (1 : Int32)) hx hb dX6_pass_15 (by decide) ?_
  refine lv_goto (tgt := 20) hx hb dX6_pass_16 (by decide) ?_
  exact hj_4 true _ _ hP hD hS ls (lv_sub hl [0, 1, 2] rfl) hrun
def rX6_led : Room := { frames := 2, cells := 0, slots := 0, locals := 43 }
noncomputable def fX6_led_L42 (K_12 : Int32 → Int32 → Option (Int32 × Tw)) (t_7 : Tw) (p1 : Int32) : Nat → Int32 → Int32 → Int32 → Option (Int32 × Tw)
  | 0, _, _, _ => none
  | n + 1, x3_15, x4_16, x5_17 =>
    if x5_17 < (0 : Int32) then
      K_12 x3_15 x4_16
    else
      mob (fX6_logged t_7 x5_17 (1 : Int32)) fun r_20 =>
      if r_20 = p1 then
        mob (fX6_logged t_7 x5_17 (0 : Int32)) fun r_23 =>
        fX6_led_L42 K_12 t_7 p1 n (x3_15 + (1 : Int32)) r_23 (x5_17 + (-1 : Int32))
      else
        fX6_led_L42 K_12 t_7 p1 n x3_15 x4_16 (x5_17 + (-1 : Int32))
noncomputable def fX6_led (t : Tw) (p1 : Int32) (p2 : Bool) : Option (Int32 × Tw) :=
  mob (fX6_isGuest t p1) fun r_2 =>
  mjn (fun (y_5 : Bool) =>
  mlt (tw_s_thrown t (bz y_5)) fun t_7 =>
  if (tw_thrown t_7) ≤ (0 : Int32) then
    mjn (fun (x3_10 : Int32) (x4_11 : Int32) =>
    if p2 = true then
      some (x4_11, t_7)
    else
      some (x3_10, t_7)) fun K_12 =>
    fX6_led_L42 K_12 t_7 p1 mFU (0 : Int32) (-1 : Int32) (((tw_m t_7) 14) - (1 : Int32))
  else
    some ((0 : Int32), t_7)) fun K_6 =>
  if r_2 = true then
    K_6 false
  else
    K_6 true
theorem kX6_led {R : Room} {s : State} {args : Array Value} {own : String} {idx mc ms : Nat} {rm : Room} (hts : ∀ w ∈ lw_all, w.before args s = true) (hl : Cond.methodLink own idx yX6_led ∈ lw_all) (hrc : rm.cells = mc) (hrs : rm.slots = ms) (hR : rm.frames + 1 ≤ R.frames ∧ 8 + (6 + 11) + rm.locals ≤ R.locals) : CallW R s args own RX6 idx yX6_led cX6_led 6 (some .int) (ws_ yX6_led cX6_led 6 (some .int)) rm mc ms 2 :=
  cwV 2 hts (lw_V hl q2456 q2457 q115 q2458) rfl hrc hrs (by decide +kernel) hR
set_option maxHeartbeats 4000000 in
set_option maxRecDepth 100000 in
theorem mtX6_led (l : Launch) (D : va_G) (k : Nat → ClassId) (a : Nat → Nat) (Z : zZ) (hOK : zOK D zCl (zTys k) Z) (t : Tw) (p1 : Int32) (p2 : Bool) (r : Int32) (tt : Tw) (hrun : fX6_led t p1 p2 = some (r, tt)) :
    CtW l yX6_led cX6_led 6 (some .int) rX6_led Z D zCl (cT k a t) [.ref (a 0), .int p1, .int (bz p2)] (fun r' w' => r' = (some (.int r)) ∧ w' = cT k a tt) 0 0 := by
  refine CtW.of (by decide) (Nat.le_of_ble_eq_true rfl) ?_
  intro p e s m args below meth c A hE hA hP hD hS hz ls hl
  obtain ⟨hx, hb, hr, hml, hown, hts, hlocks, hname⟩ := hE
  have hown : s.vm.findClass RX6 = some m.cls := hown
  have hK := hOK.1 _ _ _ hz
  have hl : lv_has ls 6 [(0, .ref (a 0)), (1, .int p1), (2, .int (bz p2))] := hl
  unfold fX6_led at hrun
  refine lv_aload_n hx hb dX6_led_0 rfl (lv_at hl 0 rfl) ?_
  refine lv_aload_n hx hb dX6_led_1 rfl (lv_at hl 0 rfl) ?_
  refine lv_iload_n hx hb dX6_led_2 rfl (lv_at hl 1 rfl) ?_
  obtain ⟨r_2, hc_1, hrun⟩ := mob_s rfl hrun
  refine cRV (As := [.int p1]) (ci := 0) ⟨hx, hb, hml, hown, hts⟩ hOK hz hS hP (mtX6_isGuest l D k a Z hOK _ _ _ hc_1) (kX6_isGuest hts q2132 rfl rfl ⟨Nat.le_of_ble_eq_true rfl, Nat.le_of_ble_eq_true rfl⟩) 0 rfl rfl rfl hl.1 rfl (lv_room (Nat.le_of_ble_eq_true rfl)) ⟨Nat.le_of_ble_eq_true rfl, Nat.le_of_ble_eq_true rfl⟩ dX6_led_3 ?_
  obtain ⟨K_6, hK_6, hrun⟩ := mjn_s hrun
  have hj_4 : ∀ (y_5 : Bool), ∀ (H : Heap) (locs : List Loc), va_P D zCl (cT k a t) H → va_D A (cT k a t) → va_S A s.heap H locs → ∀ ls : Array Slot, lv_has ls 6 [(0, .ref (a 0)), (1, .int p1), (2, .int (bz p2))] → K_6 y_5 = some (r, tt) → W p l e rX6_led s m args below meth c H locs 0 0 (MQ below (QWr (fun r' w' => r' = (some (.int r)) ∧ w' = cT k a tt) D zCl A) args s 0 0 A) (F0 m 14 ls [.int (bz y_5), .ref (a 0)]) := by
    intro y_5 H locs hP hD hS ls hl hrun
    rw [hK_6] at hrun
    refine va_put (ci := 0) (v := .int (bz y_5)) (ty := tyX6 0) (C := RX6) (T := TX6) (N := 22) hx hb hts in_X6 tyX6 tyX6_ok nmX6 hown hK hP hD hS 0 rfl rfl 0 (by decide) (hts _ q1902) (fun _ h9 => h9) rfl (tyX6_ok 0 (by decide)) rfl rfl (Nat.le_of_ble_eq_true rfl) dX6_led_14 (fun H locs hP hD hS => ?_)
    have hP : va_P D zCl (cT k a (tw_s_thrown t (bz y_5))) H := hP
    have hD : va_D A (cT k a (tw_s_thrown t (bz y_5))) := hD
    obtain ⟨t_7, et_7⟩ : ∃ z : Tw, z = (tw_s_thrown t (bz y_5)) := ⟨_, rfl⟩
    rw [← et_7] at hP hD
    have hrun := mlt_s hrun t_7 et_7
    refine lv_aload_n hx hb dX6_led_17 rfl (lv_at hl 0 rfl) ?_
    refine va_get (ci := 0) (v := .int (tw_thrown t_7)) (C := RX6) (T := TX6) (N := 22) hx hb hts in_X6 hown hK hP 0 rfl rfl 0 (by decide) (hts _ q1902) (fun _ h9 => h9) rfl dX6_led_18 ?_
    refine lv_if_le (tgt := 26) hx hb dX6_led_21 (by decide) (fun c_8 => ?_) (fun c_8 => ?_)
    · have hrun := mif_p c_8 hrun
      refine lv_iconst (v := (0 : Int32)) hx hb dX6_led_26 (by decide) ?_
      refine lv_istore_n (lv' := [(3, .int (0 : Int32)), (0, .ref (a 0)), (1, .int p1), (2, .int (bz p2))]) hx hb dX6_led_27 rfl hl (by decide) rfl (fun ls hl => ?_)
      refine lv_iconst (v := (-1 : Int32)) hx hb dX6_led_28 (by decide) ?_
      refine lv_istore (lv' := [(4, .int (-1 : Int32)), (3, .int (0 : Int32)), (0, .ref (a 0)), (1, .int p1), (2, .int (bz p2))]) hx hb dX6_led_29 hl (by decide) rfl (fun ls hl => ?_)
      refine lv_aload_n hx hb dX6_led_31 rfl (lv_at hl 2 rfl) ?_
      refine va_get (ci := 0) (v := .ref (a 1)) (C := RX6) (T := TX6) (N := 22) hx hb hts in_X6 hown hK hP 0 rfl rfl 1 (by decide) (hts _ q1903) (fun _ h9 => h9) rfl dX6_led_32 ?_
      refine lv_bipush (v := (14 : Int32)) hx hb dX6_led_35 (by decide) ?_
      refine va_ialdk (k := 14) hx hb hK hP 1 0 rfl rfl rfl (show ¬ _ from by decide) dX6_led_37 ?_
      refine lv_iconst (v := (1 : Int32)) hx hb dX6_led_38 (by decide) ?_
      refine lv_isub hx hb dX6_led_39 ?_
      refine lv_istore (lv' := [(5, .int (((tw_m t_7) 14) - (1 : Int32))), (4, .int (-1 : Int32)), (3, .int (0 : Int32)), (0, .ref (a 0)), (1, .int p1), (2, .int (bz p2))]) hx hb dX6_led_40 hl (by decide) rfl (fun ls hl => ?_)
      obtain ⟨K_12, hK_12, hrun⟩ := mjn_s hrun
      have hj_9 : ∀ (x3_10 : Int32) (x4_11 : Int32), ∀ (H : Heap) (locs : List Loc), va_P D zCl (cT k a t_7) H → va_D A (cT k a t_7) → va_S A s.heap H locs → ∀ ls : Array Slot, lv_has ls 6 [(2, .int (bz p2)), (3, .int x3_10), (4, .int x4_11)] → K_12 x3_10 x4_11 = some (r, tt) → W p l e rX6_led s m args below meth c H locs 0 0 (MQ below (QWr (fun r' w' => r' = (some (.int r)) ∧ w' = cT k a tt) D zCl A) args s 0 0 A) (F0 m 79 ls []) := by
        intro x3_10 x4_11 H locs hP hD hS ls hl hrun
        rw [hK_12] at hrun
        refine lv_iload_n hx hb dX6_led_79 rfl (lv_at hl 0 rfl) ?_
        refine lv_if_eq (tgt := 88) hx hb dX6_led_80 (by decide) (fun c_13 => ?_) (fun c_13 => ?_)
        · have hrun := mif_n (bz_z c_13) hrun
          refine lv_iload_n hx hb dX6_led_88 rfl (lv_at hl 1 rfl) ?_
          cases hrun
          exact retW_i hx hb hr hlocks hP hD hS ⟨rfl, rfl⟩ dX6_led_89
        have hrun := mif_p (bz_nz c_13) hrun
        refine lv_iload hx hb dX6_led_83 (lv_at hl 2 rfl) ?_
        refine lv_goto (tgt := 89) hx hb dX6_led_85 (by decide) ?_
        cases hrun
        exact retW_i hx hb hr hlocks hP hD hS ⟨rfl, rfl⟩ dX6_led_89
      have hL_14 : ∀ n : Nat, ∀ (x3_15 : Int32) (x4_16 : Int32) (x5_17 : Int32), ∀ (H : Heap) (locs : List Loc), va_P D zCl (cT k a t_7) H → va_D A (cT k a t_7) → va_S A s.heap H locs → ∀ ls : Array Slot, lv_has ls 6 [(0, .ref (a 0)), (1, .int p1), (2, .int (bz p2)), (3, .int x3_15), (4, .int x4_16), (5, .int x5_17)] → fX6_led_L42 K_12 t_7 p1 n x3_15 x4_16 x5_17 = some (r, tt) → W p l e rX6_led s m args below meth c H locs 0 0 (MQ below (QWr (fun r' w' => r' = (some (.int r)) ∧ w' = cT k a tt) D zCl A) args s 0 0 A) (F0 m 42 ls []) := by
        intro n
        induction n with
        | zero =>
          intro x3_15 x4_16 x5_17 H locs hP hD hS ls hl hrun
          exact nomatch hrun
        | succ n ih =>
          intro x3_15 x4_16 x5_17 H locs hP hD hS ls hl hrun
          rw [fX6_led_L42.eq_2] at hrun
          refine lv_iload hx hb dX6_led_42 (lv_at hl 5 rfl) ?_
          refine lv_if_lt (tgt := 79) hx hb dX6_led_44 (by decide) (fun c_18 => ?_) (fun c_18 => ?_)
          · have hrun := mif_p c_18 hrun
            exact hj_9 x3_15 x4_16 _ _ hP hD hS ls (lv_sub hl [2, 3, 4] rfl) hrun
          have hrun := mif_n c_18 hrun
          refine lv_aload_n hx hb dX6_led_47 rfl (lv_at hl 0 rfl) ?_
          refine lv_iload hx hb dX6_led_48 (lv_at hl 5 rfl) ?_
          refine lv_iconst (v := (1 : Int32)) hx hb dX6_led_50 (by decide) ?_
          obtain ⟨r_20, hc_19, hrun⟩ := mob_s rfl hrun
          refine cRV (As := [.int x5_17, .int (1 : Int32)]) (ci := 0) ⟨hx, hb, hml, hown, hts⟩ hOK hz hS hP (mtX6_logged l D k a Z hOK _ _ _ _ hc_19) (kX6_logged hts q2459 rfl rfl ⟨Nat.le_of_ble_eq_true rfl, Nat.le_of_ble_eq_true rfl⟩) 0 rfl rfl rfl hl.1 rfl (lv_room (Nat.le_of_ble_eq_true rfl)) ⟨Nat.le_of_ble_eq_true rfl, Nat.le_of_ble_eq_true rfl⟩ dX6_led_51 ?_
          refine lv_iload_n hx hb dX6_led_54 rfl (lv_at hl 1 rfl) ?_
          refine lv_icmp_eq (tgt := 61) hx hb dX6_led_55 (by decide) (fun c_21 => ?_) (fun c_21 => ?_)
          · have hrun := mif_p c_21 hrun
            refine lv_iinc (v := (x3_15 + (1 : Int32))) (lv' := [(3, .int (x3_15 + (1 : Int32))), (0, .ref (a 0)), (1, .int p1), (2, .int (bz p2)), (4, .int x4_16), (5, .int x5_17)]) hx hb dX6_led_61 hl (k := 3) rfl rfl (by decide) rfl (fun ls hl => ?_)
            refine lv_aload_n hx hb dX6_led_64 rfl (lv_at hl 1 rfl) ?_
            refine lv_iload hx hb dX6_led_65 (lv_at hl 5 rfl) ?_
            refine lv_iconst (v := (0 : Int32)) hx hb dX6_led_67 (by decide) ?_
            obtain ⟨r_23, hc_22, hrun⟩ := mob_s rfl hrun
            refine cRV (As := [.int x5_17, .int (0 : Int32)]) (ci := 0) ⟨hx, hb, hml, hown, hts⟩ hOK hz hS hP (mtX6_logged l D k a Z hOK _ _ _ _ hc_22) (kX6_logged hts q2459 rfl rfl ⟨Nat.le_of_ble_eq_true rfl, Nat.le_of_ble_eq_true rfl⟩) 0 rfl rfl rfl hl.1 rfl (lv_room (Nat.le_of_ble_eq_true rfl)) ⟨Nat.le_of_ble_eq_true rfl, Nat.le_of_ble_eq_true rfl⟩ dX6_led_68 ?_
            refine lv_istore (lv' := [(4, .int r_23), (3, .int (x3_15 + (1 : Int32))), (0, .ref (a 0)), (1, .int p1), (2, .int (bz p2)), (5, .int x5_17)]) hx hb dX6_led_71 hl (by decide) rfl (fun ls hl => ?_)
            refine lv_iinc (v := (x5_17 + (-1 : Int32))) (lv' := [(5, .int (x5_17 + (-1 : Int32))), (4, .int r_23), (3, .int (x3_15 + (1 : Int32))), (0, .ref (a 0)), (1, .int p1), (2, .int (bz p2))]) hx hb dX6_led_73 hl (k := 5) rfl rfl (by decide) rfl (fun ls hl => ?_)
            refine lv_goto (tgt := 42) hx hb dX6_led_76 (by decide) ?_
            exact ih (x3_15 + (1 : Int32)) r_23 (x5_17 + (-1 : Int32)) _ _ hP hD hS ls (lv_sub hl [3, 4, 5, 2, 1, 0] rfl) hrun
          have hrun := mif_n c_21 hrun
          refine lv_goto (tgt := 73) hx hb dX6_led_58 (by decide) ?_
          refine lv_iinc (v := (x5_17 + (-1 : Int32))) (lv' := [(5, .int (x5_17 + (-1 : Int32))), (0, .ref (a 0)), (1, .int p1), (2, .int (bz p2)), (3, .int x3_15), (4, .int x4_16)]) hx hb dX6_led_73 hl (k := 5) rfl rfl (by decide) rfl (fun ls hl => ?_)
          refine lv_goto (tgt := 42) hx hb dX6_led_76 (by decide) ?_
          exact ih x3_15 x4_16 (x5_17 + (-1 : Int32)) _ _ hP hD hS ls (lv_sub hl [1, 2, 3, 4, 5, 0] rfl) hrun
      exact hL_14 mFU (0 : Int32) (-1 : Int32) (((tw_m t_7) 14) - (1 : Int32)) _ _ hP hD hS ls (lv_sub hl [3, 4, 5, 2, 1, 0] rfl) hrun
    have hrun := mif_n c_8 hrun
    refine lv_iconst (v := (0 : Int32)) hx hb dX6_led_24 (by decide) ?_
    cases hrun
    exact retW_i hx hb hr hlocks hP hD hS ⟨rfl, rfl⟩ dX6_led_25
  refine lv_if_ne (tgt := 13) hx hb dX6_led_6 (by decide) (fun c_3 => ?_) (fun c_3 => ?_)
  · have hrun := mif_p (bz_nz c_3) hrun
    refine lv_iconst (v := (0 : Int32)) hx hb dX6_led_13 (by decide) ?_
    exact hj_4 false _ _ hP hD hS ls (lv_sub hl [0, 1, 2] rfl) hrun
  have hrun := mif_n (bz_z c_3) hrun
  refine lv_iconst (v := (1 : Int32)) hx hb dX6_led_9 (by decide) ?_
  refine lv_goto (tgt := 14) hx hb dX6_led_10 (by decide) ?_
  exact hj_4 true _ _ hP hD hS ls (lv_sub hl [0, 1, 2] rfl) hrun
