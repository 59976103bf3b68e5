/-! walks: X6_log, X6_seed, X6_undo, X6_image, X6_back, X6_hereOnes, X6_end, X6_skip -/
def rX6_log : Room := { frames := 1, cells := 0, slots := 0, locals := 22 }
noncomputable def fX6_log (t : Tw) (p1 : Int32) (p2 : Int32) : Option (Int32 × Tw) :=
  mob (fX6_isIn p2 (0 : Int32) (3 : Int32)) fun r_2 =>
  mjn (fun (y_5 : Bool) =>
  mlt (tw_s_thrown t (bz y_5)) fun t_7 =>
  if (tw_thrown t_7) ≤ (0 : Int32) then
    mob (fX6_isIn p1 (0 : Int32) (((tw_m t_7) 14) - (1 : Int32))) fun r_10 =>
    if r_10 = true then
      mob (fX6_logged t_7 p1 p2) fun r_13 =>
      some (r_13, t_7)
    else
      some ((-1 : Int32), t_7)
  else
    some ((0 : Int32), t_7)) fun K_6 =>
  if r_2 = true then
    K_6 false
  else
    K_6 true
theorem kX6_log {R : Room} {s : State} {args : Array Value} {own : String} {idx mc ms : Nat} {rm : Room} (hts : ∀ w ∈ lw_all, w.before args s = true) (hl : Cond.methodLink own idx yX6_log ∈ lw_all) (hrc : rm.cells = mc) (hrs : rm.slots = ms) (hR : rm.frames + 1 ≤ R.frames ∧ 8 + (3 + 11) + rm.locals ≤ R.locals) : CallW R s args own RX6 idx yX6_log cX6_log 3 (some .int) (ws_ yX6_log cX6_log 3 (some .int)) rm mc ms 2 :=
  cwV 2 hts (lw_V hl q2464 q2465 q115 q2466) rfl hrc hrs (by decide +kernel) hR
set_option maxHeartbeats 4000000 in
set_option maxRecDepth 100000 in
theorem mtX6_log (l : Launch) (D : va_G) (k : Nat → ClassId) (a : Nat → Nat) (Z : zZ) (hOK : zOK D zCl (zTys k) Z) (t : Tw) (p1 : Int32) (p2 : Int32) (r : Int32) (tt : Tw) (hrun : fX6_log t p1 p2 = some (r, tt)) :
    CtW l yX6_log cX6_log 3 (some .int) rX6_log Z D zCl (cT k a t) [.ref (a 0), .int p1, .int p2] (fun r' w' => r' = (some (.int r)) ∧ w' = cT k a tt) 0 0 := by
  refine CtW.of (by decide) (Nat.le_of_ble_eq_true rfl) ?_
  intro p e s m args below meth c A hE hA hP hD hS hz ls hl
  obtain ⟨hx, hb, hr, hml, hown, hts, hlocks, hname⟩ := hE
  have hown : s.vm.findClass RX6 = some m.cls := hown
  have hK := hOK.1 _ _ _ hz
  have hl : lv_has ls 3 [(0, .ref (a 0)), (1, .int p1), (2, .int p2)] := hl
  unfold fX6_log at hrun
  refine lv_aload_n hx hb dX6_log_0 rfl (lv_at hl 0 rfl) ?_
  refine lv_iload_n hx hb dX6_log_1 rfl (lv_at hl 2 rfl) ?_
  refine lv_iconst (v := (0 : Int32)) hx hb dX6_log_2 (by decide) ?_
  refine lv_iconst (v := (3 : Int32)) hx hb dX6_log_3 (by decide) ?_
  obtain ⟨r_2, hc_1, hrun⟩ := mob_s rfl hrun
  refine cRS (ws := []) (As := [.int p2, .int (0 : Int32), .int (3 : Int32)]) ⟨hx, hb, hml, hown, hts⟩ hOK hz hS zP0 (mtX6_isIn l D Z hOK _ _ _ _ hc_1) (kX6_isIn hts q1981 rfl rfl ⟨Nat.le_of_ble_eq_true rfl, Nat.le_of_ble_eq_true rfl⟩) rfl hl.1 rfl (lv_room (Nat.le_of_ble_eq_true rfl)) ⟨Nat.le_of_ble_eq_true rfl, Nat.le_of_ble_eq_true rfl⟩ dX6_log_4 ?_
  obtain ⟨K_6, hK_6, hrun⟩ := mjn_s hrun
  have hj_4 : ∀ (y_5 : Bool), ∀ (H : Heap) (locs : List Loc), va_P D zCl (cT k a t) H → va_D A (cT k a t) → va_S A s.heap H locs → ∀ ls : Array Slot, lv_has ls 3 [(0, .ref (a 0)), (1, .int p1), (2, .int p2)] → K_6 y_5 = some (r, tt) → W p l e rX6_log s m args below meth c H locs 0 0 (MQ below (QWr (fun r' w' => r' = (some (.int r)) ∧ w' = cT k a tt) D zCl A) args s 0 0 A) (F0 m 15 ls [.int (bz y_5), .ref (a 0)]) := by
    intro y_5 H locs hP hD hS ls hl hrun
    rw [hK_6] at hrun
    refine va_put (ci := 0) (v := .int (bz y_5)) (ty := tyX6 0) (C := RX6) (T := TX6) (N := 22) hx hb hts in_X6 tyX6 tyX6_ok nmX6 hown hK hP hD hS 0 rfl rfl 0 (by decide) (hts _ q1902) (fun _ h9 => h9) rfl (tyX6_ok 0 (by decide)) rfl rfl (Nat.le_of_ble_eq_true rfl) dX6_log_15 (fun H locs hP hD hS => ?_)
    have hP : va_P D zCl (cT k a (tw_s_thrown t (bz y_5))) H := hP
    have hD : va_D A (cT k a (tw_s_thrown t (bz y_5))) := hD
    obtain ⟨t_7, et_7⟩ : ∃ z : Tw, z = (tw_s_thrown t (bz y_5)) := ⟨_, rfl⟩
    rw [← et_7] at hP hD
    have hrun := mlt_s hrun t_7 et_7
    refine lv_aload_n hx hb dX6_log_18 rfl (lv_at hl 0 rfl) ?_
    refine va_get (ci := 0) (v := .int (tw_thrown t_7)) (C := RX6) (T := TX6) (N := 22) hx hb hts in_X6 hown hK hP 0 rfl rfl 0 (by decide) (hts _ q1902) (fun _ h9 => h9) rfl dX6_log_19 ?_
    refine lv_if_le (tgt := 27) hx hb dX6_log_22 (by decide) (fun c_8 => ?_) (fun c_8 => ?_)
    · have hrun := mif_p c_8 hrun
      refine lv_iload_n hx hb dX6_log_27 rfl (lv_at hl 1 rfl) ?_
      refine lv_iconst (v := (0 : Int32)) hx hb dX6_log_28 (by decide) ?_
      refine lv_aload_n hx hb dX6_log_29 rfl (lv_at hl 0 rfl) ?_
      refine va_get (ci := 0) (v := .ref (a 1)) (C := RX6) (T := TX6) (N := 22) hx hb hts in_X6 hown hK hP 0 rfl rfl 1 (by decide) (hts _ q1903) (fun _ h9 => h9) rfl dX6_log_30 ?_
      refine lv_bipush (v := (14 : Int32)) hx hb dX6_log_33 (by decide) ?_
      refine va_ialdk (k := 14) hx hb hK hP 1 0 rfl rfl rfl (show ¬ _ from by decide) dX6_log_35 ?_
      refine lv_iconst (v := (1 : Int32)) hx hb dX6_log_36 (by decide) ?_
      refine lv_isub hx hb dX6_log_37 ?_
      obtain ⟨r_10, hc_9, hrun⟩ := mob_s rfl hrun
      refine cRS (ws := []) (As := [.int p1, .int (0 : Int32), .int (((tw_m t_7) 14) - (1 : Int32))]) ⟨hx, hb, hml, hown, hts⟩ hOK hz hS zP0 (mtX6_isIn l D Z hOK _ _ _ _ hc_9) (kX6_isIn hts q1981 rfl rfl ⟨Nat.le_of_ble_eq_true rfl, Nat.le_of_ble_eq_true rfl⟩) rfl hl.1 rfl (lv_room (Nat.le_of_ble_eq_true rfl)) ⟨Nat.le_of_ble_eq_true rfl, Nat.le_of_ble_eq_true rfl⟩ dX6_log_38 ?_
      refine lv_if_eq (tgt := 53) hx hb dX6_log_41 (by decide) (fun c_11 => ?_) (fun c_11 => ?_)
      · have hrun := mif_n (bz_z c_11) hrun
        refine lv_iconst (v := (-1 : Int32)) hx hb dX6_log_53 (by decide) ?_
        cases hrun
        exact retW_i hx hb hr hlocks hP hD hS ⟨rfl, rfl⟩ dX6_log_54
      have hrun := mif_p (bz_nz c_11) hrun
      refine lv_aload_n hx hb dX6_log_44 rfl (lv_at hl 0 rfl) ?_
      refine lv_iload_n hx hb dX6_log_45 rfl (lv_at hl 1 rfl) ?_
      refine lv_iload_n hx hb dX6_log_46 rfl (lv_at hl 2 rfl) ?_
      obtain ⟨r_13, hc_12, hrun⟩ := mob_s rfl hrun
      refine cRV (As := [.int p1, .int p2]) (ci := 0) ⟨hx, hb, hml, hown, hts⟩ hOK hz hS hP (mtX6_logged l D k a Z hOK _ _ _ _ hc_12) (kX6_logged hts q2459 rfl rfl ⟨Nat.le_of_ble_eq_true rfl, Nat.le_of_ble_eq_true rfl⟩) 0 rfl rfl rfl hl.1 rfl (lv_room (Nat.le_of_ble_eq_true rfl)) ⟨Nat.le_of_ble_eq_true rfl, Nat.le_of_ble_eq_true rfl⟩ dX6_log_47 ?_
      refine lv_goto (tgt := 54) hx hb dX6_log_50 (by decide) ?_
      cases hrun
      exact retW_i hx hb hr hlocks hP hD hS ⟨rfl, rfl⟩ dX6_log_54
    have hrun := mif_n c_8 hrun
    refine lv_iconst (v := (0 : Int32)) hx hb dX6_log_25 (by decide) ?_
    cases hrun
    exact retW_i hx hb hr hlocks hP hD hS ⟨rfl, rfl⟩ dX6_log_26
  refine lv_if_ne (tgt := 14) hx hb dX6_log_7 (by decide) (fun c_3 => ?_) (fun c_3 => ?_)
  · have hrun := mif_p (bz_nz c_3) hrun
    refine lv_iconst (v := (0 : Int32)) hx hb dX6_log_14 (by decide) ?_
    exact hj_4 false _ _ hP hD hS ls (lv_sub hl [0, 1, 2] rfl) hrun
  have hrun := mif_n (bz_z c_3) hrun
  refine lv_iconst (v := (1 : Int32)) hx hb dX6_log_10 (by decide) ?_
  refine lv_goto (tgt := 15) hx hb dX6_log_11 (by decide) ?_
  exact hj_4 true _ _ hP hD hS ls (lv_sub hl [0, 1, 2] rfl) hrun
def rX6_seed : Room := { frames := 0, cells := 0, slots := 0, locals := 0 }
noncomputable def fX6_seed (t : Tw) (p1 : Int32) : Option (Int32 × Tw) :=
  mlt (tw_s_thrown t (0 : Int32)) fun t_1 =>
  mlt (tw_s_m t_1 (upd (tw_m t_1) 15 p1)) fun t_2 =>
  some (((tw_m t_1) 15), t_2)
theorem kX6_seed {R : Room} {s : State} {args : Array Value} {own : String} {idx mc ms : Nat} {rm : Room} (hts : ∀ w ∈ lw_all, w.before args s = true) (hl : Cond.methodLink own idx yX6_seed ∈ lw_all) (hrc : rm.cells = mc) (hrs : rm.slots = ms) (hR : rm.frames + 1 ≤ R.frames ∧ 8 + (3 + 11) + rm.locals ≤ R.locals) : CallW R s args own RX6 idx yX6_seed cX6_seed 3 (some .int) (ws_ yX6_seed cX6_seed 3 (some .int)) rm mc ms 1 :=
  cwV 1 hts (lw_V hl q2468 q2469 q115 q2470) rfl hrc hrs (by decide +kernel) hR
set_option maxHeartbeats 4000000 in
set_option maxRecDepth 100000 in
theorem mtX6_seed (l : Launch) (D : va_G) (k : Nat → ClassId) (a : Nat → Nat) (Z : zZ) (hOK : zOK D zCl (zTys k) Z) (t : Tw) (p1 : Int32) (r : Int32) (tt : Tw) (hrun : fX6_seed t p1 = some (r, tt)) :
    CtW l yX6_seed cX6_seed 3 (some .int) rX6_seed Z D zCl (cT k a t) [.ref (a 0), .int p1] (fun r' w' => r' = (some (.int r)) ∧ w' = cT k a tt) 0 0 := by
  refine CtW.of (by decide) (Nat.le_of_ble_eq_true rfl) ?_
  intro p e s m args below meth c A hE hA hP hD hS hz ls hl
  obtain ⟨hx, hb, hr, hml, hown, hts, hlocks, hname⟩ := hE
  have hown : s.vm.findClass RX6 = some m.cls := hown
  have hK := hOK.1 _ _ _ hz
  have hl : lv_has ls 3 [(0, .ref (a 0)), (1, .int p1)] := hl
  unfold fX6_seed at hrun
  refine lv_aload_n hx hb dX6_seed_0 rfl (lv_at hl 0 rfl) ?_
  refine lv_iconst (v := (0 : Int32)) hx hb dX6_seed_1 (by decide) ?_
  refine va_put (ci := 0) (v := .int (0 : Int32)) (ty := tyX6 0) (C := RX6) (T := TX6) (N := 22) hx hb hts in_X6 tyX6 tyX6_ok nmX6 hown hK hP hD hS 0 rfl rfl 0 (by decide) (hts _ q1902) (fun _ h9 => h9) rfl (tyX6_ok 0 (by decide)) rfl rfl (Nat.le_of_ble_eq_true rfl) dX6_seed_2 (fun H locs hP hD hS => ?_)
  have hP : va_P D zCl (cT k a (tw_s_thrown t (0 : Int32))) H := hP
  have hD : va_D A (cT k a (tw_s_thrown t (0 : Int32))) := hD
  obtain ⟨t_1, et_1⟩ : ∃ z : Tw, z = (tw_s_thrown t (0 : Int32)) := ⟨_, rfl⟩
  rw [← et_1] at hP hD
  have hrun := mlt_s hrun t_1 et_1
  refine lv_aload_n hx hb dX6_seed_5 rfl (lv_at hl 0 rfl) ?_
  refine va_get (ci := 0) (v := .ref (a 1)) (C := RX6) (T := TX6) (N := 22) hx hb hts in_X6 hown hK hP 0 rfl rfl 1 (by decide) (hts _ q1903) (fun _ h9 => h9) rfl dX6_seed_6 ?_
  refine lv_bipush (v := (15 : Int32)) hx hb dX6_seed_9 (by decide) ?_
  refine va_ialdk (k := 15) hx hb hK hP 1 0 rfl rfl rfl (show ¬ _ from by decide) dX6_seed_11 ?_
  refine lv_istore_n (lv' := [(2, .int ((tw_m t_1) 15)), (0, .ref (a 0)), (1, .int p1)]) hx hb dX6_seed_12 rfl hl (by decide) rfl (fun ls hl => ?_)
  refine lv_aload_n hx hb dX6_seed_13 rfl (lv_at hl 1 rfl) ?_
  refine va_get (ci := 0) (v := .ref (a 1)) (C := RX6) (T := TX6) (N := 22) hx hb hts in_X6 hown hK hP 0 rfl rfl 1 (by decide) (hts _ q1903) (fun _ h9 => h9) rfl dX6_seed_14 ?_
  refine lv_bipush (v := (15 : Int32)) hx hb dX6_seed_17 (by decide) ?_
  refine lv_iload_n hx hb dX6_seed_19 rfl (lv_at hl 2 rfl) ?_
  refine va_iastk (k := 15) hx hb hK hP hD hS 1 0 rfl rfl rfl (show ¬ _ from by decide) dX6_seed_20 (fun H locs hP hD hS => ?_)
  have hP : va_P D zCl (cT k a (tw_s_m t_1 (upd (tw_m t_1) 15 p1))) H := hP
  have hD : va_D A (cT k a (tw_s_m t_1 (upd (tw_m t_1) 15 p1))) := hD
  obtain ⟨t_2, et_2⟩ : ∃ z : Tw, z = (tw_s_m t_1 (upd (tw_m t_1) 15 p1)) := ⟨_, rfl⟩
  rw [← et_2] at hP hD
  have hrun := mlt_s hrun t_2 et_2
  refine lv_iload_n hx hb dX6_seed_21 rfl (lv_at hl 0 rfl) ?_
  cases hrun
  exact retW_i hx hb hr hlocks hP hD hS ⟨rfl, rfl⟩ dX6_seed_22
def rX6_undo : Room := { frames := 0, cells := 0, slots := 0, locals := 0 }
noncomputable def fX6_undo_L26 : Nat → Int32 → Tw → Option (Bool × Tw)
  | 0, _, _ => none
  | n + 1, x1_5, t_6 =>
    if (304 : Int32) ≤ x1_5 then
      some (true, t_6)
    else
      mck (((304 : Int32) * (tw_acted t_6)) + x1_5) 3648 <|
      mck x1_5 704 <|
      mlt (tw_s_m t_6 (upd (tw_m t_6) (Int32.toNatClampNeg x1_5) ((tw_acts t_6) (Int32.toNatClampNeg (((304 : Int32) * (tw_acted t_6)) + x1_5))))) fun t_10 =>
      fX6_undo_L26 n (x1_5 + (1 : Int32)) t_10
noncomputable def fX6_undo (t : Tw) : Option (Bool × Tw) :=
  mlt (tw_s_thrown t (0 : Int32)) fun t_1 =>
  if (tw_acted t_1) = (0 : Int32) then
    some (false, t_1)
  else
    mlt (tw_s_acted t_1 ((tw_acted t_1) - (1 : Int32))) fun t_3 =>
    fX6_undo_L26 mFU (0 : Int32) t_3
theorem kX6_undo {R : Room} {s : State} {args : Array Value} {own : String} {idx mc ms : Nat} {rm : Room} (hts : ∀ w ∈ lw_all, w.before args s = true) (hl : Cond.methodLink own idx yX6_undo ∈ lw_all) (hrc : rm.cells = mc) (hrs : rm.slots = ms) (hR : rm.frames + 1 ≤ R.frames ∧ 8 + (2 + 11) + rm.locals ≤ R.locals) : CallW R s args own RX6 idx yX6_undo cX6_undo 2 (some .boolean) (ws_ yX6_undo cX6_undo 2 (some .boolean)) rm mc ms 0 :=
  cwV 0 hts (lw_V hl q2472 q2473 q115 q2474) rfl hrc hrs (by decide +kernel) hR
set_option maxHeartbeats 4000000 in
set_option maxRecDepth 100000 in
theorem mtX6_undo (l : Launch) (D : va_G) (k : Nat → ClassId) (a : Nat → Nat) (Z : zZ) (hOK : zOK D zCl (zTys k) Z) (t : Tw) (r : Bool) (tt : Tw) (hrun : fX6_undo t = some (r, tt)) :
    CtW l yX6_undo cX6_undo 2 (some .boolean) rX6_undo Z D zCl (cT k a t) [.ref (a 0)] (fun r' w' => r' = (some (.int (bz r))) ∧ w' = cT k a tt) 0 0 := by
  refine CtW.of (by decide) (Nat.le_of_ble_eq_true rfl) ?_
  intro p e s m args below meth c A hE hA hP hD hS hz ls hl
  obtain ⟨hx, hb, hr, hml, hown, hts, hlocks, hname⟩ := hE
  have hown : s.vm.findClass RX6 = some m.cls := hown
  have hK := hOK.1 _ _ _ hz
  have hl : lv_has ls 2 [(0, .ref (a 0))] := hl
  unfold fX6_undo at hrun
  refine lv_aload_n hx hb dX6_undo_0 rfl (lv_at hl 0 rfl) ?_
  refine lv_iconst (v := (0 : Int32)) hx hb dX6_undo_1 (by decide) ?_
  refine va_put (ci := 0) (v := .int (0 : Int32)) (ty := tyX6 0) (C := RX6) (T := TX6) (N := 22) hx hb hts in_X6 tyX6 tyX6_ok nmX6 hown hK hP hD hS 0 rfl rfl 0 (by decide) (hts _ q1902) (fun _ h9 => h9) rfl (tyX6_ok 0 (by decide)) rfl rfl (Nat.le_of_ble_eq_true rfl) dX6_undo_2 (fun H locs hP hD hS => ?_)
  have hP : va_P D zCl (cT k a (tw_s_thrown t (0 : Int32))) H := hP
  have hD : va_D A (cT k a (tw_s_thrown t (0 : Int32))) := hD
  obtain ⟨t_1, et_1⟩ : ∃ z : Tw, z = (tw_s_thrown t (0 : Int32)) := ⟨_, rfl⟩
  rw [← et_1] at hP hD
  have hrun := mlt_s hrun t_1 et_1
  refine lv_aload_n hx hb dX6_undo_5 rfl (lv_at hl 0 rfl) ?_
  refine va_get (ci := 0) (v := .int (tw_acted t_1)) (C := RX6) (T := TX6) (N := 22) hx hb hts in_X6 hown hK hP 0 rfl rfl 6 (by decide) (hts _ q1908) (fun _ h9 => h9) rfl dX6_undo_6 ?_
  refine lv_if_ne (tgt := 14) hx hb dX6_undo_9 (by decide) (fun c_2 => ?_) (fun c_2 => ?_)
  · have hrun := mif_n c_2 hrun
    refine lv_aload_n hx hb dX6_undo_14 rfl (lv_at hl 0 rfl) ?_
    refine lv_dup hx hb dX6_undo_15 rfl ?_
    refine va_get (ci := 0) (v := .int (tw_acted t_1)) (C := RX6) (T := TX6) (N := 22) hx hb hts in_X6 hown hK hP 0 rfl rfl 6 (by decide) (hts _ q1908) (fun _ h9 => h9) rfl dX6_undo_16 ?_
    refine lv_iconst (v := (1 : Int32)) hx hb dX6_undo_19 (by decide) ?_
    refine lv_isub hx hb dX6_undo_20 ?_
    refine va_put (ci := 0) (v := .int ((tw_acted t_1) - (1 : Int32))) (ty := tyX6 6) (C := RX6) (T := TX6) (N := 22) hx hb hts in_X6 tyX6 tyX6_ok nmX6 hown hK hP hD hS 0 rfl rfl 6 (by decide) (hts _ q1908) (fun _ h9 => h9) rfl (tyX6_ok 6 (by decide)) rfl rfl (Nat.le_of_ble_eq_true rfl) dX6_undo_21 (fun H locs hP hD hS => ?_)
    have hP : va_P D zCl (cT k a (tw_s_acted t_1 ((tw_acted t_1) - (1 : Int32)))) H := hP
    have hD : va_D A (cT k a (tw_s_acted t_1 ((tw_acted t_1) - (1 : Int32)))) := hD
    obtain ⟨t_3, et_3⟩ : ∃ z : Tw, z = (tw_s_acted t_1 ((tw_acted t_1) - (1 : Int32))) := ⟨_, rfl⟩
    rw [← et_3] at hP hD
    have hrun := mlt_s hrun t_3 et_3
    refine lv_iconst (v := (0 : Int32)) hx hb dX6_undo_24 (by decide) ?_
    refine lv_istore_n (lv' := [(1, .int (0 : Int32)), (0, .ref (a 0))]) hx hb dX6_undo_25 rfl hl (by decide) rfl (fun ls hl => ?_)
    have hL_4 : ∀ n : Nat, ∀ (x1_5 : Int32) (t_6 : Tw), ∀ (H : Heap) (locs : List Loc), va_P D zCl (cT k a t_6) H → va_D A (cT k a t_6) → va_S A s.heap H locs → ∀ ls : Array Slot, lv_has ls 2 [(0, .ref (a 0)), (1, .int x1_5)] → fX6_undo_L26 n x1_5 t_6 = some (r, tt) → W p l e rX6_undo s m args below meth c H locs 0 0 (MQ below (QWr (fun r' w' => r' = (some (.int (bz r))) ∧ w' = cT k a tt) D zCl A) args s 0 0 A) (F0 m 26 ls []) := by
      intro n
      induction n with
      | zero =>
        intro x1_5 t_6 H locs hP hD hS ls hl hrun
        exact nomatch hrun
      | succ n ih =>
        intro x1_5 t_6 H locs hP hD hS ls hl hrun
        rw [fX6_undo_L26.eq_2] at hrun
        refine lv_iload_n hx hb dX6_undo_26 rfl (lv_at hl 1 rfl) ?_
        refine lv_sipush (v := (304 : Int32)) hx hb dX6_undo_27 (by decide) ?_
        refine lv_icmp_ge (tgt := 60) hx hb dX6_undo_30 (by decide) (fun c_7 => ?_) (fun c_7 => ?_)
        · have hrun := mif_p c_7 hrun
          refine lv_iconst (v := (1 : Int32)) hx hb dX6_undo_60 (by decide) ?_
          cases hrun
          exact retW_z (v := true) hx hb hr hlocks hP hD hS ⟨rfl, rfl⟩ dX6_undo_61
        have hrun := mif_n c_7 hrun
        refine lv_aload_n hx hb dX6_undo_33 rfl (lv_at hl 0 rfl) ?_
        refine va_get (ci := 0) (v := .ref (a 1)) (C := RX6) (T := TX6) (N := 22) hx hb hts in_X6 hown hK hP 0 rfl rfl 1 (by decide) (hts _ q1903) (fun _ h9 => h9) rfl dX6_undo_34 ?_
        refine lv_iload_n hx hb dX6_undo_37 rfl (lv_at hl 1 rfl) ?_
        refine lv_aload_n hx hb dX6_undo_38 rfl (lv_at hl 0 rfl) ?_
        refine va_get (ci := 0) (v := .ref (a 4)) (C := RX6) (T := TX6) (N := 22) hx hb hts in_X6 hown hK hP 0 rfl rfl 5 (by decide) (hts _ q1907) (fun _ h9 => h9) rfl dX6_undo_39 ?_
        refine lv_sipush (v := (304 : Int32)) hx hb dX6_undo_42 (by decide) ?_
        refine lv_aload_n hx hb dX6_undo_45 rfl (lv_at hl 0 rfl) ?_
        refine va_get (ci := 0) (v := .int (tw_acted t_6)) (C := RX6) (T := TX6) (N := 22) hx hb hts in_X6 hown hK hP 0 rfl rfl 6 (by decide) (hts _ q1908) (fun _ h9 => h9) rfl dX6_undo_46 ?_
        refine lv_imul hx hb dX6_undo_49 ?_
        refine lv_iload_n hx hb dX6_undo_50 rfl (lv_at hl 1 rfl) ?_
        refine lv_iadd hx hb dX6_undo_51 ?_
        obtain ⟨hb_8, hrun⟩ := mck_s rfl hrun
        refine va_iald hx hb hK hP 4 0 rfl rfl hb_8 dX6_undo_52 ?_
        obtain ⟨hb_9, hrun⟩ := mck_s rfl hrun
        refine va_iast hx hb hK hP hD hS 1 0 rfl rfl hb_9 dX6_undo_53 (fun H locs hP hD hS => ?_)
        have hP : va_P D zCl (cT k a (tw_s_m t_6 (upd (tw_m t_6) (Int32.toNatClampNeg x1_5) ((tw_acts t_6) (Int32.toNatClampNeg (((304 : Int32) * (tw_acted t_6)) + x1_5)))))) H := hP
        have hD : va_D A (cT k a (tw_s_m t_6 (upd (tw_m t_6) (Int32.toNatClampNeg x1_5) ((tw_acts t_6) (Int32.toNatClampNeg (((304 : Int32) * (tw_acted t_6)) + x1_5)))))) := hD
        obtain ⟨t_10, et_10⟩ : ∃ z : Tw, z = (tw_s_m t_6 (upd (tw_m t_6) (Int32.toNatClampNeg x1_5) ((tw_acts t_6) (Int32.toNatClampNeg (((304 : Int32) * (tw_acted t_6)) + x1_5))))) := ⟨_, rfl⟩
        rw [← et_10] at hP hD
        have hrun := mlt_s hrun t_10 et_10
        refine lv_iinc (v := (x1_5 + (1 : Int32))) (lv' := [(1, .int (x1_5 + (1 : Int32))), (0, .ref (a 0))]) hx hb dX6_undo_54 hl (k := 1) rfl rfl (by decide) rfl (fun ls hl => ?_)
        refine lv_goto (tgt := 26) hx hb dX6_undo_57 (by decide) ?_
        exact ih (x1_5 + (1 : Int32)) t_10 _ _ hP hD hS ls (lv_sub hl [1, 0] rfl) hrun
    exact hL_4 mFU (0 : Int32) t_3 _ _ hP hD hS ls (lv_sub hl [1, 0] rfl) hrun
  have hrun := mif_p c_2 hrun
  refine lv_iconst (v := (0 : Int32)) hx hb dX6_undo_12 (by decide) ?_
  cases hrun
  exact retW_z (v := false) hx hb hr hlocks hP hD hS ⟨rfl, rfl⟩ dX6_undo_13
def rX6_image : Room := { frames := 0, cells := 0, slots := 0, locals := 0 }
noncomputable def fX6_image_L7 (K_4 : Tw → Option (Tw)) : Nat → Int32 → Tw → Option (Tw)
  | 0, _, _ => none
  | n + 1, x1_7, t_8 =>
    if (704 : Int32) ≤ x1_7 then
      K_4 t_8
    else
      mck x1_7 704 <|
      mck x1_7 704 <|
      mlt (tw_s_kept t_8 (upd (tw_kept t_8) (Int32.toNatClampNeg x1_7) ((tw_m t_8) (Int32.toNatClampNeg x1_7)))) fun t_12 =>
      fX6_image_L7 K_4 n (x1_7 + (1 : Int32)) t_12
noncomputable def fX6_image (t : Tw) : Option (Tw) :=
  mlt (tw_s_thrown t (0 : Int32)) fun t_1 =>
  mjn (fun (t_3 : Tw) =>
  mlt (tw_s_hasImage t_3 true) fun t_5 =>
  some t_5) fun K_4 =>
  fX6_image_L7 K_4 mFU (0 : Int32) t_1
theorem kX6_image {R : Room} {s : State} {args : Array Value} {own : String} {idx mc ms : Nat} {rm : Room} (hts : ∀ w ∈ lw_all, w.before args s = true) (hl : Cond.methodLink own idx yX6_image ∈ lw_all) (hrc : rm.cells = mc) (hrs : rm.slots = ms) (hR : rm.frames + 1 ≤ R.frames ∧ 8 + (2 + 11) + rm.locals ≤ R.locals) : CallW R s args own RX6 idx yX6_image cX6_image 2 none (ws_ yX6_image cX6_image 2 none) rm mc ms 0 :=
  cwV 0 hts (lw_V hl q2476 q2477 q115 q2478) rfl hrc hrs (by decide +kernel) hR
set_option maxHeartbeats 4000000 in
set_option maxRecDepth 100000 in
theorem mtX6_image (l : Launch) (D : va_G) (k : Nat → ClassId) (a : Nat → Nat) (Z : zZ) (hOK : zOK D zCl (zTys k) Z) (t : Tw) (tt : Tw) (hrun : fX6_image t = some tt) :
    CtW l yX6_image cX6_image 2 none rX6_image Z D zCl (cT k a t) [.ref (a 0)] (fun r' w' => r' = none ∧ w' = cT k a tt) 0 0 := by
  refine CtW.of (by decide) (Nat.le_of_ble_eq_true rfl) ?_
  intro p e s m args below meth c A hE hA hP hD hS hz ls hl
  obtain ⟨hx, hb, hr, hml, hown, hts, hlocks, hname⟩ := hE
  have hown : s.vm.findClass RX6 = some m.cls := hown
  have hK := hOK.1 _ _ _ hz
  have hl : lv_has ls 2 [(0, .ref (a 0))] := hl
  unfold fX6_image at hrun
  refine lv_aload_n hx hb dX6_image_0 rfl (lv_at hl 0 rfl) ?_
  refine lv_iconst (v := (0 : Int32)) hx hb dX6_image_1 (by decide) ?_
  refine va_put (ci := 0) (v := .int (0 : Int32)) (ty := tyX6 0) (C := RX6) (T := TX6) (N := 22) hx hb hts in_X6 tyX6 tyX6_ok nmX6 hown hK hP hD hS 0 rfl rfl 0 (by decide) (hts _ q1902) (fun _ h9 => h9) rfl (tyX6_ok 0 (by decide)) rfl rfl (Nat.le_of_ble_eq_true rfl) dX6_image_2 (fun H locs hP hD hS => ?_)
  have hP : va_P D zCl (cT k a (tw_s_thrown t (0 : Int32))) H := hP
  have hD : va_D A (cT k a (tw_s_thrown t (0 : Int32))) := hD
  obtain ⟨t_1, et_1⟩ : ∃ z : Tw, z = (tw_s_thrown t (0 : Int32)) := ⟨_, rfl⟩
  rw [← et_1] at hP hD
  have hrun := mlt_s hrun t_1 et_1
  refine lv_iconst (v := (0 : Int32)) hx hb dX6_image_5 (by decide) ?_
  refine lv_istore_n (lv' := [(1, .int (0 : Int32)), (0, .ref (a 0))]) hx hb dX6_image_6 rfl hl (by decide) rfl (fun ls hl => ?_)
  obtain ⟨K_4, hK_4, hrun⟩ := mjn_s hrun
  have hj_2 : ∀ (t_3 : Tw), ∀ (H : Heap) (locs : List Loc), va_P D zCl (cT k a t_3) H → va_D A (cT k a t_3) → va_S A s.heap H locs → ∀ ls : Array Slot, lv_has ls 2 [(0, .ref (a 0))] → K_4 t_3 = some tt → W p l e rX6_image s m args below meth c H locs 0 0 (MQ below (QWr (fun r' w' => r' = none ∧ w' = cT k a tt) D zCl A) args s 0 0 A) (F0 m 32 ls []) := by
    intro t_3 H locs hP hD hS ls hl hrun
    rw [hK_4] at hrun
    refine lv_aload_n hx hb dX6_image_32 rfl (lv_at hl 0 rfl) ?_
    refine lv_iconst (v := (1 : Int32)) hx hb dX6_image_33 (by decide) ?_
    refine va_put (ci := 0) (v := .int (bz true)) (ty := tyX6 3) (C := RX6) (T := TX6) (N := 22) hx hb hts in_X6 tyX6 tyX6_ok nmX6 hown hK hP hD hS 0 rfl rfl 3 (by decide) (hts _ q1905) (fun _ h9 => h9) rfl (tyX6_ok 3 (by decide)) (bz_nar _) (bz_fit _) (Nat.le_of_ble_eq_true rfl) dX6_image_34 (fun H locs hP hD hS => ?_)
    have hP : va_P D zCl (cT k a (tw_s_hasImage t_3 true)) H := hP
    have hD : va_D A (cT k a (tw_s_hasImage t_3 true)) := hD
    obtain ⟨t_5, et_5⟩ : ∃ z : Tw, z = (tw_s_hasImage t_3 true) := ⟨_, rfl⟩
    rw [← et_5] at hP hD
    have hrun := mlt_s hrun t_5 et_5
    cases hrun
    exact retW_v hx hb hr hlocks hP hD hS ⟨rfl, rfl⟩ dX6_image_37
  have hL_6 : ∀ n : Nat, ∀ (x1_7 : Int32) (t_8 : Tw), ∀ (H : Heap) (locs : List Loc), va_P D zCl (cT k a t_8) H → va_D A (cT k a t_8) → va_S A s.heap H locs → ∀ ls : Array Slot, lv_has ls 2 [(0, .ref (a 0)), (1, .int x1_7)] → fX6_image_L7 K_4 n x1_7 t_8 = some tt → W p l e rX6_image s m args below meth c H locs 0 0 (MQ below (QWr (fun r' w' => r' = none ∧ w' = cT k a tt) D zCl A) args s 0 0 A) (F0 m 7 ls []) := by
    intro n
    induction n with
    | zero =>
      intro x1_7 t_8 H locs hP hD hS ls hl hrun
      exact nomatch hrun
    | succ n ih =>
      intro x1_7 t_8 H locs hP hD hS ls hl hrun
      rw [fX6_image_L7.eq_2] at hrun
      refine lv_iload_n hx hb dX6_image_7 rfl (lv_at hl 1 rfl) ?_
      refine lv_sipush (v := (704 : Int32)) hx hb dX6_image_8 (by decide) ?_
      refine lv_icmp_ge (tgt := 32) hx hb dX6_image_11 (by decide) (fun c_9 => ?_) (fun c_9 => ?_)
      · have hrun := mif_p c_9 hrun
        exact hj_2 t_8 _ _ hP hD hS ls (lv_sub hl [0] rfl) hrun
      have hrun := mif_n c_9 hrun
      refine lv_aload_n hx hb dX6_image_14 rfl (lv_at hl 0 rfl) ?_
      refine va_get (ci := 0) (v := .ref (a 2)) (C := RX6) (T := TX6) (N := 22) hx hb hts in_X6 hown hK hP 0 rfl rfl 2 (by decide) (hts _ q1904) (fun _ h9 => h9) rfl dX6_image_15 ?_
      refine lv_iload_n hx hb dX6_image_18 rfl (lv_at hl 1 rfl) ?_
      refine lv_aload_n hx hb dX6_image_19 rfl (lv_at hl 0 rfl) ?_
      refine va_get (ci := 0) (v := .ref (a 1)) (C := RX6) (T := TX6) (N := 22) hx hb hts in_X6 hown hK hP 0 rfl rfl 1 (by decide) (hts _ q1903) (fun _ h9 => h9) rfl dX6_image_20 ?_
      refine lv_iload_n hx hb dX6_image_23 rfl (lv_at hl 1 rfl) ?_
      obtain ⟨hb_10, hrun⟩ := mck_s rfl hrun
      refine va_iald hx hb hK hP 1 0 rfl rfl hb_10 dX6_image_24 ?_
      obtain ⟨hb_11, hrun⟩ := mck_s rfl hrun
      refine va_iast hx hb hK hP hD hS 2 0 rfl rfl hb_11 dX6_image_25 (fun H locs hP hD hS => ?_)
      have hP : va_P D zCl (cT k a (tw_s_kept t_8 (upd (tw_kept t_8) (Int32.toNatClampNeg x1_7) ((tw_m t_8) (Int32.toNatClampNeg x1_7))))) H := hP
      have hD : va_D A (cT k a (tw_s_kept t_8 (upd (tw_kept t_8) (Int32.toNatClampNeg x1_7) ((tw_m t_8) (Int32.toNatClampNeg x1_7))))) := hD
      obtain ⟨t_12, et_12⟩ : ∃ z : Tw, z = (tw_s_kept t_8 (upd (tw_kept t_8) (Int32.toNatClampNeg x1_7) ((tw_m t_8) (Int32.toNatClampNeg x1_7)))) := ⟨_, rfl⟩
      rw [← et_12] at hP hD
      have hrun := mlt_s hrun t_12 et_12
      refine lv_iinc (v := (x1_7 + (1 : Int32))) (lv' := [(1, .int (x1_7 + (1 : Int32))), (0, .ref (a 0))]) hx hb dX6_image_26 hl (k := 1) rfl rfl (by decide) rfl (fun ls hl => ?_)
      refine lv_goto (tgt := 7) hx hb dX6_image_29 (by decide) ?_
      exact ih (x1_7 + (1 : Int32)) t_12 _ _ hP hD hS ls (lv_sub hl [1, 0] rfl) hrun
  exact hL_6 mFU (0 : Int32) t_1 _ _ hP hD hS ls (lv_sub hl [1, 0] rfl) hrun
def rX6_back : Room := { frames := 0, cells := 0, slots := 0, locals := 0 }
noncomputable def fX6_back_L16 (K_5 : Tw → Option (Bool × Tw)) : Nat → Int32 → Tw → Option (Bool × Tw)
  | 0, _, _ => none
  | n + 1, x1_8, t_9 =>
    if (704 : Int32) ≤ x1_8 then
      K_5 t_9
    else
      mck x1_8 704 <|
      mck x1_8 704 <|
      mlt (tw_s_m t_9 (upd (tw_m t_9) (Int32.toNatClampNeg x1_8) ((tw_kept t_9) (Int32.toNatClampNeg x1_8)))) fun t_13 =>
      fX6_back_L16 K_5 n (x1_8 + (1 : Int32)) t_13
noncomputable def fX6_back (t : Tw) : Option (Bool × Tw) :=
  mlt (tw_s_thrown t (0 : Int32)) fun t_1 =>
  if (tw_hasImage t_1) = true then
    mjn (fun (t_4 : Tw) =>
    mlt (tw_s_acted t_4 (0 : Int32)) fun t_6 =>
    some (true, t_6)) fun K_5 =>
    fX6_back_L16 K_5 mFU (0 : Int32) t_1
  else
    some (false, t_1)
theorem kX6_back {R : Room} {s : State} {args : Array Value} {own : String} {idx mc ms : Nat} {rm : Room} (hts : ∀ w ∈ lw_all, w.before args s = true) (hl : Cond.methodLink own idx yX6_back ∈ lw_all) (hrc : rm.cells = mc) (hrs : rm.slots = ms) (hR : rm.frames + 1 ≤ R.frames ∧ 8 + (2 + 11) + rm.locals ≤ R.locals) : CallW R s args own RX6 idx yX6_back cX6_back 2 (some .boolean) (ws_ yX6_back cX6_back 2 (some .boolean)) rm mc ms 0 :=
  cwV 0 hts (lw_V hl q2480 q2481 q115 q2482) rfl hrc hrs (by decide +kernel) hR
set_option maxHeartbeats 4000000 in
set_option maxRecDepth 100000 in
theorem mtX6_back (l : Launch) (D : va_G) (k : Nat → ClassId) (a : Nat → Nat) (Z : zZ) (hOK : zOK D zCl (zTys k) Z) (t : Tw) (r : Bool) (tt : Tw) (hrun : fX6_back t = some (r, tt)) :
    CtW l yX6_back cX6_back 2 (some .boolean) rX6_back Z D zCl (cT k a t) [.ref (a 0)] (fun r' w' => r' = (some (.int (bz r))) ∧ w' = cT k a tt) 0 0 := by
  refine CtW.of (by decide) (Nat.le_of_ble_eq_true rfl) ?_
  intro p e s m args below meth c A hE hA hP hD hS hz ls hl
  obtain ⟨hx, hb, hr, hml, hown, hts, hlocks, hname⟩ := hE
  have hown : s.vm.findClass RX6 = some m.cls := hown
  have hK := hOK.1 _ _ _ hz
  have hl : lv_has ls 2 [(0, .ref (a 0))] := hl
  unfold fX6_back at hrun
  refine lv_aload_n hx hb dX6_back_0 rfl (lv_at hl 0 rfl) ?_
  refine lv_iconst (v := (0 : Int32)) hx hb dX6_back_1 (by decide) ?_
  refine va_put (ci := 0) (v := .int (0 : Int32)) (ty := tyX6 0) (C := RX6) (T := TX6) (N := 22) hx hb hts in_X6 tyX6 tyX6_ok nmX6 hown hK hP hD hS 0 rfl rfl 0 (by decide) (hts _ q1902) (fun _ h9 => h9) rfl (tyX6_ok 0 (by decide)) rfl rfl (Nat.le_of_ble_eq_true rfl) dX6_back_2 (fun H locs hP hD hS => ?_)
  have hP : va_P D zCl (cT k a (tw_s_thrown t (0 : Int32))) H := hP
  have hD : va_D A (cT k a (tw_s_thrown t (0 : Int32))) := hD
  obtain ⟨t_1, et_1⟩ : ∃ z : Tw, z = (tw_s_thrown t (0 : Int32)) := ⟨_, rfl⟩
  rw [← et_1] at hP hD
  have hrun := mlt_s hrun t_1 et_1
  refine lv_aload_n hx hb dX6_back_5 rfl (lv_at hl 0 rfl) ?_
  refine va_get (ci := 0) (v := .int (bz (tw_hasImage t_1))) (C := RX6) (T := TX6) (N := 22) hx hb hts in_X6 hown hK hP 0 rfl rfl 3 (by decide) (hts _ q1905) (fun _ h9 => h9) rfl dX6_back_6 ?_
  refine lv_if_ne (tgt := 14) hx hb dX6_back_9 (by decide) (fun c_2 => ?_) (fun c_2 => ?_)
  · have hrun := mif_p (bz_nz c_2) hrun
    refine lv_iconst (v := (0 : Int32)) hx hb dX6_back_14 (by decide) ?_
    refine lv_istore_n (lv' := [(1, .int (0 : Int32)), (0, .ref (a 0))]) hx hb dX6_back_15 rfl hl (by decide) rfl (fun ls hl => ?_)
    obtain ⟨K_5, hK_5, hrun⟩ := mjn_s hrun
    have hj_3 : ∀ (t_4 : Tw), ∀ (H : Heap) (locs : List Loc), va_P D zCl (cT k a t_4) H → va_D A (cT k a t_4) → va_S A s.heap H locs → ∀ ls : Array Slot, lv_has ls 2 [(0, .ref (a 0))] → K_5 t_4 = some (r, tt) → W p l e rX6_back s m args below meth c H locs 0 0 (MQ below (QWr (fun r' w' => r' = (some (.int (bz r))) ∧ w' = cT k a tt) D zCl A) args s 0 0 A) (F0 m 41 ls []) := by
      intro t_4 H locs hP hD hS ls hl hrun
      rw [hK_5] at hrun
      refine lv_aload_n hx hb dX6_back_41 rfl (lv_at hl 0 rfl) ?_
      refine lv_iconst (v := (0 : Int32)) hx hb dX6_back_42 (by decide) ?_
      refine va_put (ci := 0) (v := .int (0 : Int32)) (ty := tyX6 6) (C := RX6) (T := TX6) (N := 22) hx hb hts in_X6 tyX6 tyX6_ok nmX6 hown hK hP hD hS 0 rfl rfl 6 (by decide) (hts _ q1908) (fun _ h9 => h9) rfl (tyX6_ok 6 (by decide)) rfl rfl (Nat.le_of_ble_eq_true rfl) dX6_back_43 (fun H locs hP hD hS => ?_)
      have hP : va_P D zCl (cT k a (tw_s_acted t_4 (0 : Int32))) H := hP
      have hD : va_D A (cT k a (tw_s_acted t_4 (0 : Int32))) := hD
      obtain ⟨t_6, et_6⟩ : ∃ z : Tw, z = (tw_s_acted t_4 (0 : Int32)) := ⟨_, rfl⟩
      rw [← et_6] at hP hD
      have hrun := mlt_s hrun t_6 et_6
      refine lv_iconst (v := (1 : Int32)) hx hb dX6_back_46 (by decide) ?_
      cases hrun
      exact retW_z (v := true) hx hb hr hlocks hP hD hS ⟨rfl, rfl⟩ dX6_back_47
    have hL_7 : ∀ n : Nat, ∀ (x1_8 : Int32) (t_9 : Tw), ∀ (H : Heap) (locs : List Loc), va_P D zCl (cT k a t_9) H → va_D A (cT k a t_9) → va_S A s.heap H locs → ∀ ls : Array Slot, lv_has ls 2 [(0, .ref (a 0)), (1, .int x1_8)] → fX6_back_L16 K_5 n x1_8 t_9 = some (r, tt) → W p l e rX6_back s m args below meth c H locs 0 0 (MQ below (QWr (fun r' w' => r' = (some (.int (bz r))) ∧ w' = cT k a tt) D zCl A) args s 0 0 A) (F0 m 16 ls []) := by
      intro n
      induction n with
      | zero =>
        intro x1_8 t_9 H locs hP hD hS ls hl hrun
        exact nomatch hrun
      | succ n ih =>
        intro x1_8 t_9 H locs hP hD hS ls hl hrun
        rw [fX6_back_L16.eq_2] at hrun
        refine lv_iload_n hx hb dX6_back_16 rfl (lv_at hl 1 rfl) ?_
        refine lv_sipush (v := (704 : Int32)) hx hb dX6_back_17 (by decide) ?_
        refine lv_icmp_ge (tgt := 41) hx hb dX6_back_20 (by decide) (fun c_10 => ?_) (fun c_10 => ?_)
        · have hrun := mif_p c_10 hrun
          exact hj_3 t_9 _ _ hP hD hS ls (lv_sub hl [0] rfl) hrun
        have hrun := mif_n c_10 hrun
        refine lv_aload_n hx hb dX6_back_23 rfl (lv_at hl 0 rfl) ?_
        refine va_get (ci := 0) (v := .ref (a 1)) (C := RX6) (T := TX6) (N := 22) hx hb hts in_X6 hown hK hP 0 rfl rfl 1 (by decide) (hts _ q1903) (fun _ h9 => h9) rfl dX6_back_24 ?_
        refine lv_iload_n hx hb dX6_back_27 rfl (lv_at hl 1 rfl) ?_
        refine lv_aload_n hx hb dX6_back_28 rfl (lv_at hl 0 rfl) ?_
        refine va_get (ci := 0) (v := .ref (a 2)) (C := RX6) (T := TX6) (N := 22) hx hb hts in_X6 hown hK hP 0 rfl rfl 2 (by decide) (hts _ q1904) (fun _ h9 => h9) rfl dX6_back_29 ?_
        refine lv_iload_n hx hb dX6_back_32 rfl (lv_at hl 1 rfl) ?_
        obtain ⟨hb_11, hrun⟩ := mck_s rfl hrun
        refine va_iald hx hb hK hP 2 0 rfl rfl hb_11 dX6_back_33 ?_
        obtain ⟨hb_12, hrun⟩ := mck_s rfl hrun
        refine va_iast hx hb hK hP hD hS 1 0 rfl rfl hb_12 dX6_back_34 (fun H locs hP hD hS => ?_)
        have hP : va_P D zCl (cT k a (tw_s_m t_9 (upd (tw_m t_9) (Int32.toNatClampNeg x1_8) ((tw_kept t_9) (Int32.toNatClampNeg x1_8))))) H := hP
        have hD : va_D A (cT k a (tw_s_m t_9 (upd (tw_m t_9) (Int32.toNatClampNeg x1_8) ((tw_kept t_9) (Int32.toNatClampNeg x1_8))))) := hD
        obtain ⟨t_13, et_13⟩ : ∃ z : Tw, z = (tw_s_m t_9 (upd (tw_m t_9) (Int32.toNatClampNeg x1_8) ((tw_kept t_9) (Int32.toNatClampNeg x1_8)))) := ⟨_, rfl⟩
        rw [← et_13] at hP hD
        have hrun := mlt_s hrun t_13 et_13
        refine lv_iinc (v := (x1_8 + (1 : Int32))) (lv' := [(1, .int (x1_8 + (1 : Int32))), (0, .ref (a 0))]) hx hb dX6_back_35 hl (k := 1) rfl rfl (by decide) rfl (fun ls hl => ?_)
        refine lv_goto (tgt := 16) hx hb dX6_back_38 (by decide) ?_
        exact ih (x1_8 + (1 : Int32)) t_13 _ _ hP hD hS ls (lv_sub hl [1, 0] rfl) hrun
    exact hL_7 mFU (0 : Int32) t_1 _ _ hP hD hS ls (lv_sub hl [1, 0] rfl) hrun
  have hrun := mif_n (bz_z c_2) hrun
  refine lv_iconst (v := (0 : Int32)) hx hb dX6_back_12 (by decide) ?_
  cases hrun
  exact retW_z (v := false) hx hb hr hlocks hP hD hS ⟨rfl, rfl⟩ dX6_back_13
def rX6_hereOnes : Room := { frames := 2, cells := 0, slots := 0, locals := 43 }
noncomputable def fX6_hereOnes_L4 (t : Tw) : Nat → Int32 → Int32 → Option (Int32)
  | 0, _, _ => none
  | n + 1, x1_2, x2_3 =>
    if ((tw_m t) 3) ≤ x2_3 then
      some x1_2
    else
      mob (fX6_isHere t x2_3) fun r_6 =>
      if r_6 = true then
        fX6_hereOnes_L4 t n (x1_2 ||| ((1 : Int32) <<< (x2_3 &&& (31 : Int32)))) (x2_3 + (1 : Int32))
      else
        fX6_hereOnes_L4 t n (x1_2 ||| (0 : Int32)) (x2_3 + (1 : Int32))
noncomputable def fX6_hereOnes (t : Tw) : Option (Int32) :=
  fX6_hereOnes_L4 t mFU (0 : Int32) (0 : Int32)
theorem kX6_hereOnes {R : Room} {s : State} {args : Array Value} {own : String} {idx mc ms : Nat} {rm : Room} (hts : ∀ w ∈ lw_all, w.before args s = true) (hl : Cond.methodLink own idx yX6_hereOnes ∈ lw_all) (hrc : rm.cells = mc) (hrs : rm.slots = ms) (hR : rm.frames + 1 ≤ R.frames ∧ 8 + (3 + 11) + rm.locals ≤ R.locals) : CallW R s args own RX6 idx yX6_hereOnes cX6_hereOnes 3 (some .int) (ws_ yX6_hereOnes cX6_hereOnes 3 (some .int)) rm mc ms 0 :=
  cwV 0 hts (lw_V hl q2489 qs105 q115 q2490) rfl hrc hrs (by decide +kernel) hR
set_option maxHeartbeats 4000000 in
set_option maxRecDepth 100000 in
theorem mtX6_hereOnes (l : Launch) (D : va_G) (k : Nat → ClassId) (a : Nat → Nat) (Z : zZ) (hOK : zOK D zCl (zTys k) Z) (t : Tw) (r : Int32) (hrun : fX6_hereOnes t = some r) :
    CtR l yX6_hereOnes cX6_hereOnes 3 (some .int) rX6_hereOnes Z D zCl (cT k a t) [.ref (a 0)] (some (.int r)) := by
  refine CtR.of (by decide) (Nat.le_of_ble_eq_true rfl) ?_
  intro p e s m args below meth c hE hP hz ls hl
  obtain ⟨hx, hb, hr, hml, hown, hts, hlocks, hname⟩ := hE
  have hown : s.vm.findClass RX6 = some m.cls := hown
  have hK := hOK.1 _ _ _ hz
  have hl : lv_has ls 3 [(0, .ref (a 0))] := hl
  unfold fX6_hereOnes at hrun
  refine lv_iconst (v := (0 : Int32)) hx hb dX6_hereOnes_0 (by decide) ?_
  refine lv_istore_n (lv' := [(1, .int (0 : Int32)), (0, .ref (a 0))]) hx hb dX6_hereOnes_1 rfl hl (by decide) rfl (fun ls hl => ?_)
  refine lv_iconst (v := (0 : Int32)) hx hb dX6_hereOnes_2 (by decide) ?_
  refine lv_istore_n (lv' := [(2, .int (0 : Int32)), (1, .int (0 : Int32)), (0, .ref (a 0))]) hx hb dX6_hereOnes_3 rfl hl (by decide) rfl (fun ls hl => ?_)
  have hL_1 : ∀ n : Nat, ∀ (x1_2 : Int32) (x2_3 : Int32), ∀ ls : Array Slot, lv_has ls 3 [(0, .ref (a 0)), (1, .int x1_2), (2, .int x2_3)] → fX6_hereOnes_L4 t n x1_2 x2_3 = some r → W p l e rX6_hereOnes s m args below meth c s.heap [] 0 0 (MQ below (QRr (some (.int r))) args s 0 0 (fun _ => False)) (F0 m 4 ls []) := by
    intro n
    induction n with
    | zero =>
      intro x1_2 x2_3 ls hl hrun
      exact nomatch hrun
    | succ n ih =>
      intro x1_2 x2_3 ls hl hrun
      rw [fX6_hereOnes_L4.eq_2] at hrun
      refine lv_iload_n hx hb dX6_hereOnes_4 rfl (lv_at hl 2 rfl) ?_
      refine lv_aload_n hx hb dX6_hereOnes_5 rfl (lv_at hl 0 rfl) ?_
      refine va_get (ci := 0) (v := .ref (a 1)) (C := RX6) (T := TX6) (N := 22) hx hb hts in_X6 hown hK hP 0 rfl rfl 1 (by decide) (hts _ q1903) (fun _ h9 => h9) rfl dX6_hereOnes_6 ?_
      refine lv_iconst (v := (3 : Int32)) hx hb dX6_hereOnes_9 (by decide) ?_
      refine va_ialdk (k := 3) hx hb hK hP 1 0 rfl rfl rfl (show ¬ _ from by decide) dX6_hereOnes_10 ?_
      refine lv_icmp_ge (tgt := 38) hx hb dX6_hereOnes_11 (by decide) (fun c_4 => ?_) (fun c_4 => ?_)
      · have hrun := mif_p c_4 hrun
        refine lv_iload_n hx hb dX6_hereOnes_38 rfl (lv_at hl 1 rfl) ?_
        cases hrun
        exact retR_i hx hb hr hlocks rfl dX6_hereOnes_39
      have hrun := mif_n c_4 hrun
      refine lv_iload_n hx hb dX6_hereOnes_14 rfl (lv_at hl 1 rfl) ?_
      refine lv_aload_n hx hb dX6_hereOnes_15 rfl (lv_at hl 0 rfl) ?_
      refine lv_iload_n hx hb dX6_hereOnes_16 rfl (lv_at hl 2 rfl) ?_
      obtain ⟨r_6, hc_5, hrun⟩ := mob_s rfl hrun
      refine cRV (As := [.int x2_3]) (ci := 0) ⟨hx, hb, hml, hown, hts⟩ hOK hz va_S.rf hP (mtX6_isHere l D k a Z hOK _ _ _ hc_5) (kX6_isHere hts q2155 rfl rfl ⟨Nat.le_of_ble_eq_true rfl, Nat.le_of_ble_eq_true rfl⟩) 0 rfl rfl rfl hl.1 rfl (lv_room (Nat.le_of_ble_eq_true rfl)) ⟨Nat.le_of_ble_eq_true rfl, Nat.le_of_ble_eq_true rfl⟩ dX6_hereOnes_17 ?_
      refine lv_if_eq (tgt := 29) hx hb dX6_hereOnes_20 (by decide) (fun c_7 => ?_) (fun c_7 => ?_)
      · have hrun := mif_n (bz_z c_7) hrun
        refine lv_iconst (v := (0 : Int32)) hx hb dX6_hereOnes_29 (by decide) ?_
        refine lv_ior hx hb dX6_hereOnes_30 ?_
        refine lv_istore_n (lv' := [(1, .int (x1_2 ||| (0 : Int32))), (0, .ref (a 0)), (2, .int x2_3)]) hx hb dX6_hereOnes_31 rfl hl (by decide) rfl (fun ls hl => ?_)
        refine lv_iinc (v := (x2_3 + (1 : Int32))) (lv' := [(2, .int (x2_3 + (1 : Int32))), (1, .int (x1_2 ||| (0 : Int32))), (0, .ref (a 0))]) hx hb dX6_hereOnes_32 hl (k := 2) rfl rfl (by decide) rfl (fun ls hl => ?_)
        refine lv_goto (tgt := 4) hx hb dX6_hereOnes_35 (by decide) ?_
        exact ih (x1_2 ||| (0 : Int32)) (x2_3 + (1 : Int32)) ls (lv_sub hl [2, 1, 0] rfl) hrun
      have hrun := mif_p (bz_nz c_7) hrun
      refine lv_iconst (v := (1 : Int32)) hx hb dX6_hereOnes_23 (by decide) ?_
      refine lv_iload_n hx hb dX6_hereOnes_24 rfl (lv_at hl 2 rfl) ?_
      refine lv_ishl hx hb dX6_hereOnes_25 ?_
      refine lv_goto (tgt := 30) hx hb dX6_hereOnes_26 (by decide) ?_
      refine lv_ior hx hb dX6_hereOnes_30 ?_
      refine lv_istore_n (lv' := [(1, .int (x1_2 ||| ((1 : Int32) <<< (x2_3 &&& (31 : Int32))))), (0, .ref (a 0)), (2, .int x2_3)]) hx hb dX6_hereOnes_31 rfl hl (by decide) rfl (fun ls hl => ?_)
      refine lv_iinc (v := (x2_3 + (1 : Int32))) (lv' := [(2, .int (x2_3 + (1 : Int32))), (1, .int (x1_2 ||| ((1 : Int32) <<< (x2_3 &&& (31 : Int32))))), (0, .ref (a 0))]) hx hb dX6_hereOnes_32 hl (k := 2) rfl rfl (by decide) rfl (fun ls hl => ?_)
      refine lv_goto (tgt := 4) hx hb dX6_hereOnes_35 (by decide) ?_
      exact ih (x1_2 ||| ((1 : Int32) <<< (x2_3 &&& (31 : Int32)))) (x2_3 + (1 : Int32)) ls (lv_sub hl [2, 1, 0] rfl) hrun
  exact hL_1 mFU (0 : Int32) (0 : Int32) ls (lv_sub hl [2, 1, 0] rfl) hrun
def rX6_end : Room := { frames := 1, cells := 0, slots := 0, locals := 22 }
noncomputable def fX6_end (t : Tw) (p1 : Int32) : Option (Bool × Tw) :=
  mlt (tw_s_thrown t (0 : Int32)) fun t_1 =>
  mob (fX6_isIn p1 (0 : Int32) (tw_taped t_1)) fun r_3 =>
  if r_3 = true then
    mlt (tw_s_taped t_1 p1) fun t_5 =>
    some (true, t_5)
  else
    some (false, t_1)
theorem kX6_end {R : Room} {s : State} {args : Array Value} {own : String} {idx mc ms : Nat} {rm : Room} (hts : ∀ w ∈ lw_all, w.before args s = true) (hl : Cond.methodLink own idx yX6_end ∈ lw_all) (hrc : rm.cells = mc) (hrs : rm.slots = ms) (hR : rm.frames + 1 ≤ R.frames ∧ 8 + (2 + 11) + rm.locals ≤ R.locals) : CallW R s args own RX6 idx yX6_end cX6_end 2 (some .boolean) (ws_ yX6_end cX6_end 2 (some .boolean)) rm mc ms 1 :=
  cwV 1 hts (lw_V hl q1978 q1979 q115 q1980) rfl hrc hrs (by decide +kernel) hR
set_option maxHeartbeats 4000000 in
set_option maxRecDepth 100000 in
theorem mtX6_end (l : Launch) (D : va_G) (k : Nat → ClassId) (a : Nat → Nat) (Z : zZ) (hOK : zOK D zCl (zTys k) Z) (t : Tw) (p1 : Int32) (r : Bool) (tt : Tw) (hrun : fX6_end t p1 = some (r, tt)) :
    CtW l yX6_end cX6_end 2 (some .boolean) rX6_end Z D zCl (cT k a t) [.ref (a 0), .int p1] (fun r' w' => r' = (some (.int (bz r))) ∧ w' = cT k a tt) 0 0 := by
  refine CtW.of (by decide) (Nat.le_of_ble_eq_true rfl) ?_
  intro p e s m args below meth c A hE hA hP hD hS hz ls hl
  obtain ⟨hx, hb, hr, hml, hown, hts, hlocks, hname⟩ := hE
  have hown : s.vm.findClass RX6 = some m.cls := hown
  have hK := hOK.1 _ _ _ hz
  have hl : lv_has ls 2 [(0, .ref (a 0)), (1, .int p1)] := hl
  unfold fX6_end at hrun
  refine lv_aload_n hx hb dX6_end_0 rfl (lv_at hl 0 rfl) ?_
  refine lv_iconst (v := (0 : Int32)) hx hb dX6_end_1 (by decide) ?_
  refine va_put (ci := 0) (v := .int (0 : Int32)) (ty := tyX6 0) (C := RX6) (T := TX6) (N := 22) hx hb hts in_X6 tyX6 tyX6_ok nmX6 hown hK hP hD hS 0 rfl rfl 0 (by decide) (hts _ q1902) (fun _ h9 => h9) rfl (tyX6_ok 0 (by decide)) rfl rfl (Nat.le_of_ble_eq_true rfl) dX6_end_2 (fun H locs hP hD hS => ?_)
  have hP : va_P D zCl (cT k a (tw_s_thrown t (0 : Int32))) H := hP
  have hD : va_D A (cT k a (tw_s_thrown t (0 : Int32))) := hD
  obtain ⟨t_1, et_1⟩ : ∃ z : Tw, z = (tw_s_thrown t (0 : Int32)) := ⟨_, rfl⟩
  rw [← et_1] at hP hD
  have hrun := mlt_s hrun t_1 et_1
  refine lv_iload_n hx hb dX6_end_5 rfl (lv_at hl 1 rfl) ?_
  refine lv_iconst (v := (0 : Int32)) hx hb dX6_end_6 (by decide) ?_
  refine lv_aload_n hx hb dX6_end_7 rfl (lv_at hl 0 rfl) ?_
  refine va_get (ci := 0) (v := .int (tw_taped t_1)) (C := RX6) (T := TX6) (N := 22) hx hb hts in_X6 hown hK hP 0 rfl rfl 8 (by decide) (hts _ q1910) (fun _ h9 => h9) rfl dX6_end_8 ?_
  obtain ⟨r_3, hc_2, hrun⟩ := mob_s rfl hrun
  refine cRS (ws := []) (As := [.int p1, .int (0 : Int32), .int (tw_taped t_1)]) ⟨hx, hb, hml, hown, hts⟩ hOK hz hS zP0 (mtX6_isIn l D Z hOK _ _ _ _ hc_2) (kX6_isIn hts q1981 rfl rfl ⟨Nat.le_of_ble_eq_true rfl, Nat.le_of_ble_eq_true rfl⟩) rfl hl.1 rfl (lv_room (Nat.le_of_ble_eq_true rfl)) ⟨Nat.le_of_ble_eq_true rfl, Nat.le_of_ble_eq_true rfl⟩ dX6_end_11 ?_
  refine lv_if_ne (tgt := 19) hx hb dX6_end_14 (by decide) (fun c_4 => ?_) (fun c_4 => ?_)
  · have hrun := mif_p (bz_nz c_4) hrun
    refine lv_aload_n hx hb dX6_end_19 rfl (lv_at hl 0 rfl) ?_
    refine lv_iload_n hx hb dX6_end_20 rfl (lv_at hl 1 rfl) ?_
    refine va_put (ci := 0) (v := .int p1) (ty := tyX6 8) (C := RX6) (T := TX6) (N := 22) hx hb hts in_X6 tyX6 tyX6_ok nmX6 hown hK hP hD hS 0 rfl rfl 8 (by decide) (hts _ q1910) (fun _ h9 => h9) rfl (tyX6_ok 8 (by decide)) rfl rfl (Nat.le_of_ble_eq_true rfl) dX6_end_21 (fun H locs hP hD hS => ?_)
    have hP : va_P D zCl (cT k a (tw_s_taped t_1 p1)) H := hP
    have hD : va_D A (cT k a (tw_s_taped t_1 p1)) := hD
    obtain ⟨t_5, et_5⟩ : ∃ z : Tw, z = (tw_s_taped t_1 p1) := ⟨_, rfl⟩
    rw [← et_5] at hP hD
    have hrun := mlt_s hrun t_5 et_5
    refine lv_iconst (v := (1 : Int32)) hx hb dX6_end_24 (by decide) ?_
    cases hrun
    exact retW_z (v := true) hx hb hr hlocks hP hD hS ⟨rfl, rfl⟩ dX6_end_25
  have hrun := mif_n (bz_z c_4) hrun
  refine lv_iconst (v := (0 : Int32)) hx hb dX6_end_17 (by decide) ?_
  cases hrun
  exact retW_z (v := false) hx hb hr hlocks hP hD hS ⟨rfl, rfl⟩ dX6_end_18
def rX6_skip : Room := { frames := 1, cells := 0, slots := 0, locals := 21 }
noncomputable def fX6_skip_L0 : Nat → Tw → Option (Tw)
  | 0, _ => none
  | n + 1, t_2 =>
    if (tw_end_ t_2) ≤ (tw_at_ t_2) then
      some t_2
    else
      mob (fX6_letter t_2 (tw_at_ t_2)) fun r_5 =>
      if r_5 = (32 : Int32) then
        mlt (tw_s_at_ t_2 ((tw_at_ t_2) + (1 : Int32))) fun t_7 =>
        fX6_skip_L0 n t_7
      else
        some t_2
noncomputable def fX6_skip (t : Tw) : Option (Tw) :=
  fX6_skip_L0 mFU t
theorem kX6_skip {R : Room} {s : State} {args : Array Value} {own : String} {idx mc ms : Nat} {rm : Room} (hts : ∀ w ∈ lw_all, w.before args s = true) (hl : Cond.methodLink own idx yX6_skip ∈ lw_all) (hrc : rm.cells = mc) (hrs : rm.slots = ms) (hR : rm.frames + 1 ≤ R.frames ∧ 8 + (1 + 11) + rm.locals ≤ R.locals) : CallW R s args own RX6 idx yX6_skip cX6_skip 1 none (ws_ yX6_skip cX6_skip 1 none) rm mc ms 0 :=
  cwV 0 hts (lw_V hl q2002 qs52 q115 q2003) rfl hrc hrs (by decide +kernel) hR
set_option maxHeartbeats 4000000 in
set_option maxRecDepth 100000 in
theorem mtX6_skip (l : Launch) (D : va_G) (k : Nat → ClassId) (a : Nat → Nat) (Z : zZ) (hOK : zOK D zCl (zTys k) Z) (t : Tw) (tt : Tw) (hrun : fX6_skip t = some tt) :
    CtW l yX6_skip cX6_skip 1 none rX6_skip Z D zCl (cT k a t) [.ref (a 0)] (fun r' w' => r' = none ∧ w' = cT k a tt) 0 0 := by
  refine CtW.of (by decide) (Nat.le_of_ble_eq_true rfl) ?_
  intro p e s m args below meth c A hE hA hP hD hS hz ls hl
  obtain ⟨hx, hb, hr, hml, hown, hts, hlocks, hname⟩ := hE
  have hown : s.vm.findClass RX6 = some m.cls := hown
  have hK := hOK.1 _ _ _ hz
  have hl : lv_has ls 1 [(0, .ref (a 0))] := hl
  unfold fX6_skip at hrun
  have hL_1 : ∀ n : Nat, ∀ (t_2 : Tw), ∀ (H : Heap) (locs : List Loc), va_P D zCl (cT k a t_2) H → va_D A (cT k a t_2) → va_S A s.heap H locs → ∀ ls : Array Slot, lv_has ls 1 [(0, .ref (a 0))] → fX6_skip_L0 n t_2 = some tt → W p l e rX6_skip s m args below meth c H locs 0 0 (MQ below (QWr (fun r' w' => r' = none ∧ w' = cT k a tt) D zCl A) args s 0 0 A) (F0 m 0 ls []) := by
    intro n
    induction n with
    | zero =>
      intro t_2 H locs hP hD hS ls hl hrun
      exact nomatch hrun
    | succ n ih =>
      intro t_2 H locs hP hD hS ls hl hrun
      rw [fX6_skip_L0.eq_2] at hrun
      refine lv_aload_n hx hb dX6_skip_0 rfl (lv_at hl 0 rfl) ?_
      refine va_get (ci := 0) (v := .int (tw_at_ t_2)) (C := RX6) (T := TX6) (N := 22) hx hb hts in_X6 hown hK hP 0 rfl rfl 11 (by decide) (hts _ q1913) (fun _ h9 => h9) rfl dX6_skip_1 ?_
      refine lv_aload_n hx hb dX6_skip_4 rfl (lv_at hl 0 rfl) ?_
      refine va_get (ci := 0) (v := .int (tw_end_ t_2)) (C := RX6) (T := TX6) (N := 22) hx hb hts in_X6 hown hK hP 0 rfl rfl 10 (by decide) (hts _ q1912) (fun _ h9 => h9) rfl dX6_skip_5 ?_
      refine lv_icmp_ge (tgt := 37) hx hb dX6_skip_8 (by decide) (fun c_3 => ?_) (fun c_3 => ?_)
      · have hrun := mif_p c_3 hrun
        cases hrun
        exact retW_v hx hb hr hlocks hP hD hS ⟨rfl, rfl⟩ dX6_skip_37
      have hrun := mif_n c_3 hrun
      refine lv_aload_n hx hb dX6_skip_11 rfl (lv_at hl 0 rfl) ?_
      refine lv_aload_n hx hb dX6_skip_12 rfl (lv_at hl 0 rfl) ?_
      refine va_get (ci := 0) (v := .int (tw_at_ t_2)) (C := RX6) (T := TX6) (N := 22) hx hb hts in_X6 hown hK hP 0 rfl rfl 11 (by decide) (hts _ q1913) (fun _ h9 => h9) rfl dX6_skip_13 ?_
      obtain ⟨r_5, hc_4, hrun⟩ := mob_s rfl hrun
      refine cRV (As := [.int (tw_at_ t_2)]) (ci := 0) ⟨hx, hb, hml, hown, hts⟩ hOK hz hS hP (mtX6_letter l D k a Z hOK _ _ _ hc_4) (kX6_letter hts q2004 rfl rfl ⟨Nat.le_of_ble_eq_true rfl, Nat.le_of_ble_eq_true rfl⟩) 0 rfl rfl rfl hl.1 rfl (lv_room (Nat.le_of_ble_eq_true rfl)) ⟨Nat.le_of_ble_eq_true rfl, Nat.le_of_ble_eq_true rfl⟩ dX6_skip_16 ?_
      refine lv_bipush (v := (32 : Int32)) hx hb dX6_skip_19 (by decide) ?_
      refine lv_icmp_ne (tgt := 37) hx hb dX6_skip_21 (by decide) (fun c_6 => ?_) (fun c_6 => ?_)
      · have hrun := mif_n c_6 hrun
        cases hrun
        exact retW_v hx hb hr hlocks hP hD hS ⟨rfl, rfl⟩ dX6_skip_37
      have hrun := mif_p c_6 hrun
      refine lv_aload_n hx hb dX6_skip_24 rfl (lv_at hl 0 rfl) ?_
      refine lv_dup hx hb dX6_skip_25 rfl ?_
      refine va_get (ci := 0) (v := .int (tw_at_ t_2)) (C := RX6) (T := TX6) (N := 22) hx hb hts in_X6 hown hK hP 0 rfl rfl 11 (by decide) (hts _ q1913) (fun _ h9 => h9) rfl dX6_skip_26 ?_
      refine lv_iconst (v := (1 : Int32)) hx hb dX6_skip_29 (by decide) ?_
      refine lv_iadd hx hb dX6_skip_30 ?_
      refine va_put (ci := 0) (v := .int ((tw_at_ t_2) + (1 : Int32))) (ty := tyX6 11) (C := RX6) (T := TX6) (N := 22) hx hb hts in_X6 tyX6 tyX6_ok nmX6 hown hK hP hD hS 0 rfl rfl 11 (by decide) (hts _ q1913) (fun _ h9 => h9) rfl (tyX6_ok 11 (by decide)) rfl rfl (Nat.le_of_ble_eq_true rfl) dX6_skip_31 (fun H locs hP hD hS => ?_)
      have hP : va_P D zCl (cT k a (tw_s_at_ t_2 ((tw_at_ t_2) + (1 : Int32)))) H := hP
      have hD : va_D A (cT k a (tw_s_at_ t_2 ((tw_at_ t_2) + (1 : Int32)))) := hD
      obtain ⟨t_7, et_7⟩ : ∃ z : Tw, z = (tw_s_at_ t_2 ((tw_at_ t_2) + (1 : Int32))) := ⟨_, rfl⟩
      rw [← et_7] at hP hD
      have hrun := mlt_s hrun t_7 et_7
      refine lv_goto (tgt := 0) hx hb dX6_skip_34 (by decide) ?_
      exact ih t_7 _ _ hP hD hS ls (lv_sub hl [0] rfl) hrun
  exact hL_1 mFU t _ _ hP hD hS ls (lv_sub hl [0] rfl) hrun
