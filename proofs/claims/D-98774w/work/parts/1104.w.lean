/-! walks: X6_saturdays, X6_builtBy, X6_stand, X6_oddsOf, X6_shuts, X6_risksOf, X6_hostHas, X6_guestHas -/
def rX6_saturdays : Room := { frames := 1, cells := 0, slots := 0, locals := 22 }
noncomputable def fX6_saturdays_L24 (p1 : Int32) (t_7 : Tw) : Nat → Int32 → Int32 → Option (Int32 × Tw)
  | 0, _, _ => none
  | n + 1, x2_9, x3_10 =>
    if p1 ≤ x3_10 then
      some (x2_9, t_7)
    else
      if (tw_thrown t_7) = (0 : Int32) then
        mob (fX6_isSaturday t_7 (0 : Int32) (((tw_m t_7) 10) + x3_10)) fun r_14 =>
        if r_14 = true then
          fX6_saturdays_L24 p1 t_7 n (x2_9 + (1 : Int32)) (x3_10 + (1 : Int32))
        else
          mob (fX6_isSaturday t_7 (1 : Int32) (((tw_m t_7) 10) + x3_10)) fun r_17 =>
          if r_17 = true then
            fX6_saturdays_L24 p1 t_7 n (x2_9 + (1 : Int32)) (x3_10 + (1 : Int32))
          else
            fX6_saturdays_L24 p1 t_7 n (x2_9 + (0 : Int32)) (x3_10 + (1 : Int32))
      else
        some (x2_9, t_7)
noncomputable def fX6_saturdays (t : Tw) (p1 : Int32) : Option (Int32 × Tw) :=
  mob (fX6_isIn p1 (0 : Int32) (400 : Int32)) fun r_2 =>
  mjn (fun (y_5 : Bool) =>
  mlt (tw_s_thrown t (bz y_5)) fun t_7 =>
  fX6_saturdays_L24 p1 t_7 mFU (0 : Int32) (0 : Int32)) fun K_6 =>
  if r_2 = true then
    K_6 false
  else
    K_6 true
theorem kX6_saturdays {R : Room} {s : State} {args : Array Value} {own : String} {idx mc ms : Nat} {rm : Room} (hts : ∀ w ∈ lw_all, w.before args s = true) (hl : Cond.methodLink own idx yX6_saturdays ∈ lw_all) (hrc : rm.cells = mc) (hrs : rm.slots = ms) (hR : rm.frames + 1 ≤ R.frames ∧ 8 + (4 + 11) + rm.locals ≤ R.locals) : CallW R s args own RX6 idx yX6_saturdays cX6_saturdays 4 (some .int) (ws_ yX6_saturdays cX6_saturdays 4 (some .int)) rm mc ms 1 :=
  cwV 1 hts (lw_V hl q2285 q2286 q115 q2287) rfl hrc hrs (by decide +kernel) hR
set_option maxHeartbeats 4000000 in
set_option maxRecDepth 100000 in
theorem mtX6_saturdays (l : Launch) (D : va_G) (k : Nat → ClassId) (a : Nat → Nat) (Z : zZ) (hOK : zOK D zCl (zTys k) Z) (t : Tw) (p1 : Int32) (r : Int32) (tt : Tw) (hrun : fX6_saturdays t p1 = some (r, tt)) :
    CtW l yX6_saturdays cX6_saturdays 4 (some .int) rX6_saturdays Z D zCl (cT k a t) [.ref (a 0), .int p1] (fun r' w' => r' = (some (.int r)) ∧ w' = cT k a tt) 0 0 := by
  refine CtW.of (by decide) (Nat.le_of_ble_eq_true rfl) ?_
  intro p e s m args below meth c A hE hA hP hD hS hz ls hl
  obtain ⟨hx, hb, hr, hml, hown, hts, hlocks, hname⟩ := hE
  have hown : s.vm.findClass RX6 = some m.cls := hown
  have hK := hOK.1 _ _ _ hz
  have hl : lv_has ls 4 [(0, .ref (a 0)), (1, .int p1)] := hl
  unfold fX6_saturdays at hrun
  refine lv_aload_n hx hb dX6_saturdays_0 rfl (lv_at hl 0 rfl) ?_
  refine lv_iload_n hx hb dX6_saturdays_1 rfl (lv_at hl 1 rfl) ?_
  refine lv_iconst (v := (0 : Int32)) hx hb dX6_saturdays_2 (by decide) ?_
  refine lv_sipush (v := (400 : Int32)) hx hb dX6_saturdays_3 (by decide) ?_
  obtain ⟨r_2, hc_1, hrun⟩ := mob_s rfl hrun
  refine cRS (ws := []) (As := [.int p1, .int (0 : Int32), .int (400 : Int32)]) ⟨hx, hb, hml, hown, hts⟩ hOK hz hS zP0 (mtX6_isIn l D Z hOK _ _ _ _ hc_1) (kX6_isIn hts q1981 rfl rfl ⟨Nat.le_of_ble_eq_true rfl, Nat.le_of_ble_eq_true rfl⟩) rfl hl.1 rfl (lv_room (Nat.le_of_ble_eq_true rfl)) ⟨Nat.le_of_ble_eq_true rfl, Nat.le_of_ble_eq_true rfl⟩ dX6_saturdays_6 ?_
  obtain ⟨K_6, hK_6, hrun⟩ := mjn_s hrun
  have hj_4 : ∀ (y_5 : Bool), ∀ (H : Heap) (locs : List Loc), va_P D zCl (cT k a t) H → va_D A (cT k a t) → va_S A s.heap H locs → ∀ ls : Array Slot, lv_has ls 4 [(0, .ref (a 0)), (1, .int p1)] → K_6 y_5 = some (r, tt) → W p l e rX6_saturdays s m args below meth c H locs 0 0 (MQ below (QWr (fun r' w' => r' = (some (.int r)) ∧ w' = cT k a tt) D zCl A) args s 0 0 A) (F0 m 17 ls [.int (bz y_5), .ref (a 0)]) := by
    intro y_5 H locs hP hD hS ls hl hrun
    rw [hK_6] at hrun
    refine va_put (ci := 0) (v := .int (bz y_5)) (ty := tyX6 0) (C := RX6) (T := TX6) (N := 22) hx hb hts in_X6 tyX6 tyX6_ok nmX6 hown hK hP hD hS 0 rfl rfl 0 (by decide) (hts _ q1902) (fun _ h9 => h9) rfl (tyX6_ok 0 (by decide)) rfl rfl (Nat.le_of_ble_eq_true rfl) dX6_saturdays_17 (fun H locs hP hD hS => ?_)
    have hP : va_P D zCl (cT k a (tw_s_thrown t (bz y_5))) H := hP
    have hD : va_D A (cT k a (tw_s_thrown t (bz y_5))) := hD
    obtain ⟨t_7, et_7⟩ : ∃ z : Tw, z = (tw_s_thrown t (bz y_5)) := ⟨_, rfl⟩
    rw [← et_7] at hP hD
    have hrun := mlt_s hrun t_7 et_7
    refine lv_iconst (v := (0 : Int32)) hx hb dX6_saturdays_20 (by decide) ?_
    refine lv_istore_n (lv' := [(2, .int (0 : Int32)), (0, .ref (a 0)), (1, .int p1)]) hx hb dX6_saturdays_21 rfl hl (by decide) rfl (fun ls hl => ?_)
    refine lv_iconst (v := (0 : Int32)) hx hb dX6_saturdays_22 (by decide) ?_
    refine lv_istore_n (lv' := [(3, .int (0 : Int32)), (2, .int (0 : Int32)), (0, .ref (a 0)), (1, .int p1)]) hx hb dX6_saturdays_23 rfl hl (by decide) rfl (fun ls hl => ?_)
    have hL_8 : ∀ n : Nat, ∀ (x2_9 : Int32) (x3_10 : Int32), ∀ (H : Heap) (locs : List Loc), va_P D zCl (cT k a t_7) H → va_D A (cT k a t_7) → va_S A s.heap H locs → ∀ ls : Array Slot, lv_has ls 4 [(0, .ref (a 0)), (1, .int p1), (2, .int x2_9), (3, .int x3_10)] → fX6_saturdays_L24 p1 t_7 n x2_9 x3_10 = some (r, tt) → W p l e rX6_saturdays s m args below meth c H locs 0 0 (MQ below (QWr (fun r' w' => r' = (some (.int r)) ∧ w' = cT k a tt) D zCl A) args s 0 0 A) (F0 m 24 ls []) := by
      intro n
      induction n with
      | zero =>
        intro x2_9 x3_10 H locs hP hD hS ls hl hrun
        exact nomatch hrun
      | succ n ih =>
        intro x2_9 x3_10 H locs hP hD hS ls hl hrun
        rw [fX6_saturdays_L24.eq_2] at hrun
        refine lv_iload_n hx hb dX6_saturdays_24 rfl (lv_at hl 3 rfl) ?_
        refine lv_iload_n hx hb dX6_saturdays_25 rfl (lv_at hl 1 rfl) ?_
        refine lv_icmp_ge (tgt := 84) hx hb dX6_saturdays_26 (by decide) (fun c_11 => ?_) (fun c_11 => ?_)
        · have hrun := mif_p c_11 hrun
          refine lv_iload_n hx hb dX6_saturdays_84 rfl (lv_at hl 2 rfl) ?_
          cases hrun
          exact retW_i hx hb hr hlocks hP hD hS ⟨rfl, rfl⟩ dX6_saturdays_85
        have hrun := mif_n c_11 hrun
        refine lv_aload_n hx hb dX6_saturdays_29 rfl (lv_at hl 0 rfl) ?_
        refine va_get (ci := 0) (v := .int (tw_thrown t_7)) (C := RX6) (T := TX6) (N := 22) hx hb hts in_X6 hown hK hP 0 rfl rfl 0 (by decide) (hts _ q1902) (fun _ h9 => h9) rfl dX6_saturdays_30 ?_
        refine lv_if_ne (tgt := 84) hx hb dX6_saturdays_33 (by decide) (fun c_12 => ?_) (fun c_12 => ?_)
        · have hrun := mif_n c_12 hrun
          refine lv_iload_n hx hb dX6_saturdays_84 rfl (lv_at hl 2 rfl) ?_
          cases hrun
          exact retW_i hx hb hr hlocks hP hD hS ⟨rfl, rfl⟩ dX6_saturdays_85
        have hrun := mif_p c_12 hrun
        refine lv_iload_n hx hb dX6_saturdays_36 rfl (lv_at hl 2 rfl) ?_
        refine lv_aload_n hx hb dX6_saturdays_37 rfl (lv_at hl 0 rfl) ?_
        refine lv_iconst (v := (0 : Int32)) hx hb dX6_saturdays_38 (by decide) ?_
        refine lv_aload_n hx hb dX6_saturdays_39 rfl (lv_at hl 0 rfl) ?_
        refine va_get (ci := 0) (v := .ref (a 1)) (C := RX6) (T := TX6) (N := 22) hx hb hts in_X6 hown hK hP 0 rfl rfl 1 (by decide) (hts _ q1903) (fun _ h9 => h9) rfl dX6_saturdays_40 ?_
        refine lv_bipush (v := (10 : Int32)) hx hb dX6_saturdays_43 (by decide) ?_
        refine va_ialdk (k := 10) hx hb hK hP 1 0 rfl rfl rfl (show ¬ _ from by decide) dX6_saturdays_45 ?_
        refine lv_iload_n hx hb dX6_saturdays_46 rfl (lv_at hl 3 rfl) ?_
        refine lv_iadd hx hb dX6_saturdays_47 ?_
        obtain ⟨r_14, hc_13, hrun⟩ := mob_s rfl hrun
        refine cRV (As := [.int (0 : Int32), .int (((tw_m t_7) 10) + x3_10)]) (ci := 0) ⟨hx, hb, hml, hown, hts⟩ hOK hz hS hP (mtX6_isSaturday l D k a Z hOK _ _ _ _ hc_13) (kX6_isSaturday hts q2151 rfl rfl ⟨Nat.le_of_ble_eq_true rfl, Nat.le_of_ble_eq_true rfl⟩) 0 rfl rfl rfl hl.1 rfl (lv_room (Nat.le_of_ble_eq_true rfl)) ⟨Nat.le_of_ble_eq_true rfl, Nat.le_of_ble_eq_true rfl⟩ dX6_saturdays_48 ?_
        refine lv_if_ne (tgt := 71) hx hb dX6_saturdays_51 (by decide) (fun c_15 => ?_) (fun c_15 => ?_)
        · have hrun := mif_p (bz_nz c_15) hrun
          refine lv_iconst (v := (1 : Int32)) hx hb dX6_saturdays_71 (by decide) ?_
          refine lv_goto (tgt := 76) hx hb dX6_saturdays_72 (by decide) ?_
          refine lv_iadd hx hb dX6_saturdays_76 ?_
          refine lv_istore_n (lv' := [(2, .int (x2_9 + (1 : Int32))), (0, .ref (a 0)), (1, .int p1), (3, .int x3_10)]) hx hb dX6_saturdays_77 rfl hl (by decide) rfl (fun ls hl => ?_)
          refine lv_iinc (v := (x3_10 + (1 : Int32))) (lv' := [(3, .int (x3_10 + (1 : Int32))), (2, .int (x2_9 + (1 : Int32))), (0, .ref (a 0)), (1, .int p1)]) hx hb dX6_saturdays_78 hl (k := 3) rfl rfl (by decide) rfl (fun ls hl => ?_)
          refine lv_goto (tgt := 24) hx hb dX6_saturdays_81 (by decide) ?_
          exact ih (x2_9 + (1 : Int32)) (x3_10 + (1 : Int32)) _ _ hP hD hS ls (lv_sub hl [2, 3, 1, 0] rfl) hrun
        have hrun := mif_n (bz_z c_15) hrun
        refine lv_aload_n hx hb dX6_saturdays_54 rfl (lv_at hl 0 rfl) ?_
        refine lv_iconst (v := (1 : Int32)) hx hb dX6_saturdays_55 (by decide) ?_
        refine lv_aload_n hx hb dX6_saturdays_56 rfl (lv_at hl 0 rfl) ?_
        refine va_get (ci := 0) (v := .ref (a 1)) (C := RX6) (T := TX6) (N := 22) hx hb hts in_X6 hown hK hP 0 rfl rfl 1 (by decide) (hts _ q1903) (fun _ h9 => h9) rfl dX6_saturdays_57 ?_
        refine lv_bipush (v := (10 : Int32)) hx hb dX6_saturdays_60 (by decide) ?_
        refine va_ialdk (k := 10) hx hb hK hP 1 0 rfl rfl rfl (show ¬ _ from by decide) dX6_saturdays_62 ?_
        refine lv_iload_n hx hb dX6_saturdays_63 rfl (lv_at hl 3 rfl) ?_
        refine lv_iadd hx hb dX6_saturdays_64 ?_
        obtain ⟨r_17, hc_16, hrun⟩ := mob_s rfl hrun
        refine cRV (As := [.int (1 : Int32), .int (((tw_m t_7) 10) + x3_10)]) (ci := 0) ⟨hx, hb, hml, hown, hts⟩ hOK hz hS hP (mtX6_isSaturday l D k a Z hOK _ _ _ _ hc_16) (kX6_isSaturday hts q2151 rfl rfl ⟨Nat.le_of_ble_eq_true rfl, Nat.le_of_ble_eq_true rfl⟩) 0 rfl rfl rfl hl.1 rfl (lv_room (Nat.le_of_ble_eq_true rfl)) ⟨Nat.le_of_ble_eq_true rfl, Nat.le_of_ble_eq_true rfl⟩ dX6_saturdays_65 ?_
        refine lv_if_eq (tgt := 75) hx hb dX6_saturdays_68 (by decide) (fun c_18 => ?_) (fun c_18 => ?_)
        · have hrun := mif_n (bz_z c_18) hrun
          refine lv_iconst (v := (0 : Int32)) hx hb dX6_saturdays_75 (by decide) ?_
          refine lv_iadd hx hb dX6_saturdays_76 ?_
          refine lv_istore_n (lv' := [(2, .int (x2_9 + (0 : Int32))), (0, .ref (a 0)), (1, .int p1), (3, .int x3_10)]) hx hb dX6_saturdays_77 rfl hl (by decide) rfl (fun ls hl => ?_)
          refine lv_iinc (v := (x3_10 + (1 : Int32))) (lv' := [(3, .int (x3_10 + (1 : Int32))), (2, .int (x2_9 + (0 : Int32))), (0, .ref (a 0)), (1, .int p1)]) hx hb dX6_saturdays_78 hl (k := 3) rfl rfl (by decide) rfl (fun ls hl => ?_)
          refine lv_goto (tgt := 24) hx hb dX6_saturdays_81 (by decide) ?_
          exact ih (x2_9 + (0 : Int32)) (x3_10 + (1 : Int32)) _ _ hP hD hS ls (lv_sub hl [2, 3, 1, 0] rfl) hrun
        have hrun := mif_p (bz_nz c_18) hrun
        refine lv_iconst (v := (1 : Int32)) hx hb dX6_saturdays_71 (by decide) ?_
        refine lv_goto (tgt := 76) hx hb dX6_saturdays_72 (by decide) ?_
        refine lv_iadd hx hb dX6_saturdays_76 ?_
        refine lv_istore_n (lv' := [(2, .int (x2_9 + (1 : Int32))), (0, .ref (a 0)), (1, .int p1), (3, .int x3_10)]) hx hb dX6_saturdays_77 rfl hl (by decide) rfl (fun ls hl => ?_)
        refine lv_iinc (v := (x3_10 + (1 : Int32))) (lv' := [(3, .int (x3_10 + (1 : Int32))), (2, .int (x2_9 + (1 : Int32))), (0, .ref (a 0)), (1, .int p1)]) hx hb dX6_saturdays_78 hl (k := 3) rfl rfl (by decide) rfl (fun ls hl => ?_)
        refine lv_goto (tgt := 24) hx hb dX6_saturdays_81 (by decide) ?_
        exact ih (x2_9 + (1 : Int32)) (x3_10 + (1 : Int32)) _ _ hP hD hS ls (lv_sub hl [2, 3, 1, 0] rfl) hrun
    exact hL_8 mFU (0 : Int32) (0 : Int32) _ _ hP hD hS ls (lv_sub hl [2, 3, 1, 0] rfl) hrun
  refine lv_if_ne (tgt := 16) hx hb dX6_saturdays_9 (by decide) (fun c_3 => ?_) (fun c_3 => ?_)
  · have hrun := mif_p (bz_nz c_3) hrun
    refine lv_iconst (v := (0 : Int32)) hx hb dX6_saturdays_16 (by decide) ?_
    exact hj_4 false _ _ hP hD hS ls (lv_sub hl [0, 1] rfl) hrun
  have hrun := mif_n (bz_z c_3) hrun
  refine lv_iconst (v := (1 : Int32)) hx hb dX6_saturdays_12 (by decide) ?_
  refine lv_goto (tgt := 17) hx hb dX6_saturdays_13 (by decide) ?_
  exact hj_4 true _ _ hP hD hS ls (lv_sub hl [0, 1] rfl) hrun
def rX6_builtBy : Room := { frames := 2, cells := 0, slots := 0, locals := 42 }
noncomputable def fX6_builtBy_L8 (K_6 : Int32 → Tw → Option (Int32 × Tw)) (p1 : Int32) : Nat → Int32 → Int32 → Tw → Option (Int32 × Tw)
  | 0, _, _, _ => none
  | n + 1, x2_10, x3_11, t_12 =>
    if (400 : Int32) < x3_11 then
      K_6 x2_10 t_12
    else
      if x2_10 = (-1 : Int32) then
        mjn (fun (x2_17 : Int32) =>
        mob (fX6_builds t_12) fun t_20 =>
        fX6_builtBy_L8 K_6 p1 n x2_17 (x3_11 + (1 : Int32)) t_20) fun K_18 =>
        if p1 = (0 : Int32) then
          if ((tw_m t_12) 7) = (0 : Int32) then
            K_18 x3_11
          else
            K_18 x2_10
        else
          if ((tw_m t_12) 8) < p1 then
            K_18 x2_10
          else
            K_18 x3_11
      else
        K_6 x2_10 t_12
noncomputable def fX6_builtBy (t : Tw) (p1 : Int32) : Option (Int32 × Tw) :=
  mob (fX6_putsAside t) fun t_2 =>
  mjn (fun (x2_4 : Int32) (t_5 : Tw) =>
  mob (fX6_comesBack t_5) fun t_8 =>
  some (x2_4, t_8)) fun K_6 =>
  fX6_builtBy_L8 K_6 p1 mFU (-1 : Int32) (0 : Int32) t_2
theorem kX6_builtBy {R : Room} {s : State} {args : Array Value} {own : String} {idx mc ms : Nat} {rm : Room} (hts : ∀ w ∈ lw_all, w.before args s = true) (hl : Cond.methodLink own idx yX6_builtBy ∈ lw_all) (hrc : rm.cells = mc) (hrs : rm.slots = ms) (hR : rm.frames + 1 ≤ R.frames ∧ 8 + (4 + 11) + rm.locals ≤ R.locals) : CallW R s args own RX6 idx yX6_builtBy cX6_builtBy 4 (some .int) (ws_ yX6_builtBy cX6_builtBy 4 (some .int)) rm mc ms 1 :=
  cwV 1 hts (lw_V hl q2298 qs92 q115 q2299) rfl hrc hrs (by decide +kernel) hR
set_option maxHeartbeats 4000000 in
set_option maxRecDepth 100000 in
theorem mtX6_builtBy (l : Launch) (D : va_G) (k : Nat → ClassId) (a : Nat → Nat) (Z : zZ) (hOK : zOK D zCl (zTys k) Z) (t : Tw) (p1 : Int32) (r : Int32) (tt : Tw) (hrun : fX6_builtBy t p1 = some (r, tt)) :
    CtW l yX6_builtBy cX6_builtBy 4 (some .int) rX6_builtBy Z D zCl (cT k a t) [.ref (a 0), .int p1] (fun r' w' => r' = (some (.int r)) ∧ w' = cT k a tt) 0 0 := by
  refine CtW.of (by decide) (Nat.le_of_ble_eq_true rfl) ?_
  intro p e s m args below meth c A hE hA hP hD hS hz ls hl
  obtain ⟨hx, hb, hr, hml, hown, hts, hlocks, hname⟩ := hE
  have hown : s.vm.findClass RX6 = some m.cls := hown
  have hK := hOK.1 _ _ _ hz
  have hl : lv_has ls 4 [(0, .ref (a 0)), (1, .int p1)] := hl
  unfold fX6_builtBy at hrun
  refine lv_aload_n hx hb dX6_builtBy_0 rfl (lv_at hl 0 rfl) ?_
  obtain ⟨t_2, hc_1, hrun⟩ := mob_s rfl hrun
  refine cWV00 (As := []) (ci := 0) ⟨hx, hb, hml, hown, hts⟩ hOK hz hS hA hP hD (mtX6_putsAside l D k a Z hOK _ _ hc_1) (kX6_putsAside hts q1988 rfl rfl ⟨Nat.le_of_ble_eq_true rfl, Nat.le_of_ble_eq_true rfl⟩) 0 rfl rfl rfl hl.1 rfl (lv_room (Nat.le_of_ble_eq_true rfl)) ⟨Nat.le_of_ble_eq_true rfl, Nat.le_of_ble_eq_true rfl⟩ dX6_builtBy_1 (fun r_ w_ H locs hq hP hD hS => ?_)
  obtain ⟨rfl, rfl⟩ := hq
  refine lv_iconst (v := (-1 : Int32)) hx hb dX6_builtBy_4 (by decide) ?_
  refine lv_istore_n (lv' := [(2, .int (-1 : Int32)), (0, .ref (a 0)), (1, .int p1)]) hx hb dX6_builtBy_5 rfl hl (by decide) rfl (fun ls hl => ?_)
  refine lv_iconst (v := (0 : Int32)) hx hb dX6_builtBy_6 (by decide) ?_
  refine lv_istore_n (lv' := [(3, .int (0 : Int32)), (2, .int (-1 : Int32)), (0, .ref (a 0)), (1, .int p1)]) hx hb dX6_builtBy_7 rfl hl (by decide) rfl (fun ls hl => ?_)
  obtain ⟨K_6, hK_6, hrun⟩ := mjn_s hrun
  have hj_3 : ∀ (x2_4 : Int32) (t_5 : Tw), ∀ (H : Heap) (locs : List Loc), va_P D zCl (cT k a t_5) H → va_D A (cT k a t_5) → va_S A s.heap H locs → ∀ ls : Array Slot, lv_has ls 4 [(0, .ref (a 0)), (2, .int x2_4)] → K_6 x2_4 t_5 = some (r, tt) → W p l e rX6_builtBy s m args below meth c H locs 0 0 (MQ below (QWr (fun r' w' => r' = (some (.int r)) ∧ w' = cT k a tt) D zCl A) args s 0 0 A) (F0 m 60 ls []) := by
    intro x2_4 t_5 H locs hP hD hS ls hl hrun
    rw [hK_6] at hrun
    refine lv_aload_n hx hb dX6_builtBy_60 rfl (lv_at hl 0 rfl) ?_
    obtain ⟨t_8, hc_7, hrun⟩ := mob_s rfl hrun
    refine cWV00 (As := []) (ci := 0) ⟨hx, hb, hml, hown, hts⟩ hOK hz hS hA hP hD (mtX6_comesBack l D k a Z hOK _ _ hc_7) (kX6_comesBack hts q2116 rfl rfl ⟨Nat.le_of_ble_eq_true rfl, Nat.le_of_ble_eq_true rfl⟩) 0 rfl rfl rfl hl.1 rfl (lv_room (Nat.le_of_ble_eq_true rfl)) ⟨Nat.le_of_ble_eq_true rfl, Nat.le_of_ble_eq_true rfl⟩ dX6_builtBy_61 (fun r_ w_ H locs hq hP hD hS => ?_)
    obtain ⟨rfl, rfl⟩ := hq
    refine lv_iload_n hx hb dX6_builtBy_64 rfl (lv_at hl 1 rfl) ?_
    cases hrun
    exact retW_i hx hb hr hlocks hP hD hS ⟨rfl, rfl⟩ dX6_builtBy_65
  have hL_9 : ∀ n : Nat, ∀ (x2_10 : Int32) (x3_11 : Int32) (t_12 : Tw), ∀ (H : Heap) (locs : List Loc), va_P D zCl (cT k a t_12) H → va_D A (cT k a t_12) → va_S A s.heap H locs → ∀ ls : Array Slot, lv_has ls 4 [(0, .ref (a 0)), (1, .int p1), (2, .int x2_10), (3, .int x3_11)] → fX6_builtBy_L8 K_6 p1 n x2_10 x3_11 t_12 = some (r, tt) → W p l e rX6_builtBy s m args below meth c H locs 0 0 (MQ below (QWr (fun r' w' => r' = (some (.int r)) ∧ w' = cT k a tt) D zCl A) args s 0 0 A) (F0 m 8 ls []) := by
    intro n
    induction n with
    | zero =>
      intro x2_10 x3_11 t_12 H locs hP hD hS ls hl hrun
      exact nomatch hrun
    | succ n ih =>
      intro x2_10 x3_11 t_12 H locs hP hD hS ls hl hrun
      rw [fX6_builtBy_L8.eq_2] at hrun
      refine lv_iload_n hx hb dX6_builtBy_8 rfl (lv_at hl 3 rfl) ?_
      refine lv_sipush (v := (400 : Int32)) hx hb dX6_builtBy_9 (by decide) ?_
      refine lv_icmp_gt (tgt := 60) hx hb dX6_builtBy_12 (by decide) (fun c_13 => ?_) (fun c_13 => ?_)
      · have hrun := mif_p c_13 hrun
        exact hj_3 x2_10 t_12 _ _ hP hD hS ls (lv_sub hl [0, 2] rfl) hrun
      have hrun := mif_n c_13 hrun
      refine lv_iload_n hx hb dX6_builtBy_15 rfl (lv_at hl 2 rfl) ?_
      refine lv_iconst (v := (-1 : Int32)) hx hb dX6_builtBy_16 (by decide) ?_
      refine lv_icmp_ne (tgt := 60) hx hb dX6_builtBy_17 (by decide) (fun c_14 => ?_) (fun c_14 => ?_)
      · have hrun := mif_n c_14 hrun
        exact hj_3 x2_10 t_12 _ _ hP hD hS ls (lv_sub hl [0, 2] rfl) hrun
      have hrun := mif_p c_14 hrun
      refine lv_iload_n hx hb dX6_builtBy_20 rfl (lv_at hl 1 rfl) ?_
      obtain ⟨K_18, hK_18, hrun⟩ := mjn_s hrun
      have hj_16 : ∀ (x2_17 : Int32), ∀ (H : Heap) (locs : List Loc), va_P D zCl (cT k a t_12) H → va_D A (cT k a t_12) → va_S A s.heap H locs → ∀ ls : Array Slot, lv_has ls 4 [(0, .ref (a 0)), (1, .int p1), (2, .int x2_17), (3, .int x3_11)] → K_18 x2_17 = some (r, tt) → W p l e rX6_builtBy s m args below meth c H locs 0 0 (MQ below (QWr (fun r' w' => r' = (some (.int r)) ∧ w' = cT k a tt) D zCl A) args s 0 0 A) (F0 m 50 ls []) := by
        intro x2_17 H locs hP hD hS ls hl hrun
        rw [hK_18] at hrun
        refine lv_aload_n hx hb dX6_builtBy_50 rfl (lv_at hl 0 rfl) ?_
        obtain ⟨t_20, hc_19, hrun⟩ := mob_s rfl hrun
        refine cWV00 (As := []) (ci := 0) ⟨hx, hb, hml, hown, hts⟩ hOK hz hS hA hP hD (mtX6_builds l D k a Z hOK _ _ hc_19) (kX6_builds hts q2272 rfl rfl ⟨Nat.le_of_ble_eq_true rfl, Nat.le_of_ble_eq_true rfl⟩) 0 rfl rfl rfl hl.1 rfl (lv_room (Nat.le_of_ble_eq_true rfl)) ⟨Nat.le_of_ble_eq_true rfl, Nat.le_of_ble_eq_true rfl⟩ dX6_builtBy_51 (fun r_ w_ H locs hq hP hD hS => ?_)
        obtain ⟨rfl, rfl⟩ := hq
        refine lv_iinc (v := (x3_11 + (1 : Int32))) (lv' := [(3, .int (x3_11 + (1 : Int32))), (0, .ref (a 0)), (1, .int p1), (2, .int x2_17)]) hx hb dX6_builtBy_54 hl (k := 3) rfl rfl (by decide) rfl (fun ls hl => ?_)
        refine lv_goto (tgt := 8) hx hb dX6_builtBy_57 (by decide) ?_
        exact ih x2_17 (x3_11 + (1 : Int32)) t_20 _ _ hP hD hS ls (lv_sub hl [1, 2, 3, 0] rfl) hrun
      refine lv_if_ne (tgt := 37) hx hb dX6_builtBy_21 (by decide) (fun c_15 => ?_) (fun c_15 => ?_)
      · have hrun := mif_n c_15 hrun
        refine lv_aload_n hx hb dX6_builtBy_37 rfl (lv_at hl 0 rfl) ?_
        refine va_get (ci := 0) (v := .ref (a 1)) (C := RX6) (T := TX6) (N := 22) hx hb hts in_X6 hown hK hP 0 rfl rfl 1 (by decide) (hts _ q1903) (fun _ h9 => h9) rfl dX6_builtBy_38 ?_
        refine lv_bipush (v := (8 : Int32)) hx hb dX6_builtBy_41 (by decide) ?_
        refine va_ialdk (k := 8) hx hb hK hP 1 0 rfl rfl rfl (show ¬ _ from by decide) dX6_builtBy_43 ?_
        refine lv_iload_n hx hb dX6_builtBy_44 rfl (lv_at hl 1 rfl) ?_
        refine lv_icmp_lt (tgt := 50) hx hb dX6_builtBy_45 (by decide) (fun c_21 => ?_) (fun c_21 => ?_)
        · have hrun := mif_p c_21 hrun
          exact hj_16 x2_10 _ _ hP hD hS ls (lv_sub hl [0, 1, 2, 3] rfl) hrun
        have hrun := mif_n c_21 hrun
        refine lv_iload_n hx hb dX6_builtBy_48 rfl (lv_at hl 3 rfl) ?_
        refine lv_istore_n (lv' := [(2, .int x3_11), (0, .ref (a 0)), (1, .int p1), (3, .int x3_11)]) hx hb dX6_builtBy_49 rfl hl (by decide) rfl (fun ls hl => ?_)
        exact hj_16 x3_11 _ _ hP hD hS ls (lv_sub hl [1, 2, 0, 3] rfl) hrun
      have hrun := mif_p c_15 hrun
      refine lv_aload_n hx hb dX6_builtBy_24 rfl (lv_at hl 0 rfl) ?_
      refine va_get (ci := 0) (v := .ref (a 1)) (C := RX6) (T := TX6) (N := 22) hx hb hts in_X6 hown hK hP 0 rfl rfl 1 (by decide) (hts _ q1903) (fun _ h9 => h9) rfl dX6_builtBy_25 ?_
      refine lv_bipush (v := (7 : Int32)) hx hb dX6_builtBy_28 (by decide) ?_
      refine va_ialdk (k := 7) hx hb hK hP 1 0 rfl rfl rfl (show ¬ _ from by decide) dX6_builtBy_30 ?_
      refine lv_if_ne (tgt := 50) hx hb dX6_builtBy_31 (by decide) (fun c_22 => ?_) (fun c_22 => ?_)
      · have hrun := mif_n c_22 hrun
        exact hj_16 x2_10 _ _ hP hD hS ls (lv_sub hl [0, 1, 2, 3] rfl) hrun
      have hrun := mif_p c_22 hrun
      refine lv_goto (tgt := 48) hx hb dX6_builtBy_34 (by decide) ?_
      refine lv_iload_n hx hb dX6_builtBy_48 rfl (lv_at hl 3 rfl) ?_
      refine lv_istore_n (lv' := [(2, .int x3_11), (0, .ref (a 0)), (1, .int p1), (3, .int x3_11)]) hx hb dX6_builtBy_49 rfl hl (by decide) rfl (fun ls hl => ?_)
      exact hj_16 x3_11 _ _ hP hD hS ls (lv_sub hl [1, 2, 0, 3] rfl) hrun
  exact hL_9 mFU (-1 : Int32) (0 : Int32) t_2 _ _ hP hD hS ls (lv_sub hl [2, 3, 1, 0] rfl) hrun
def rX6_stand : Room := { frames := 3, cells := 0, slots := 0, locals := 65 }
noncomputable def fX6_stand (t : Tw) (p1 : Int32) : Option (Int32 × Tw) :=
  mob (fX6_isIn p1 (1 : Int32) (9999 : Int32)) fun r_2 =>
  mjn (fun (y_5 : Bool) =>
  mlt (tw_s_thrown t (bz y_5)) fun t_7 =>
  if (tw_thrown t_7) ≤ (0 : Int32) then
    mo2 (fX6_builtBy t_7 p1) fun r_11 t_10 =>
    some (r_11, t_10)
  else
    some ((0 : Int32), t_7)) fun K_6 =>
  if r_2 = true then
    K_6 false
  else
    K_6 true
theorem kX6_stand {R : Room} {s : State} {args : Array Value} {own : String} {idx mc ms : Nat} {rm : Room} (hts : ∀ w ∈ lw_all, w.before args s = true) (hl : Cond.methodLink own idx yX6_stand ∈ lw_all) (hrc : rm.cells = mc) (hrs : rm.slots = ms) (hR : rm.frames + 1 ≤ R.frames ∧ 8 + (2 + 11) + rm.locals ≤ R.locals) : CallW R s args own RX6 idx yX6_stand cX6_stand 2 (some .int) (ws_ yX6_stand cX6_stand 2 (some .int)) rm mc ms 1 :=
  cwV 1 hts (lw_V hl q2301 q2302 q115 q2303) rfl hrc hrs (by decide +kernel) hR
set_option maxHeartbeats 4000000 in
set_option maxRecDepth 100000 in
theorem mtX6_stand (l : Launch) (D : va_G) (k : Nat → ClassId) (a : Nat → Nat) (Z : zZ) (hOK : zOK D zCl (zTys k) Z) (t : Tw) (p1 : Int32) (r : Int32) (tt : Tw) (hrun : fX6_stand t p1 = some (r, tt)) :
    CtW l yX6_stand cX6_stand 2 (some .int) rX6_stand Z D zCl (cT k a t) [.ref (a 0), .int p1] (fun r' w' => r' = (some (.int r)) ∧ w' = cT k a tt) 0 0 := by
  refine CtW.of (by decide) (Nat.le_of_ble_eq_true rfl) ?_
  intro p e s m args below meth c A hE hA hP hD hS hz ls hl
  obtain ⟨hx, hb, hr, hml, hown, hts, hlocks, hname⟩ := hE
  have hown : s.vm.findClass RX6 = some m.cls := hown
  have hK := hOK.1 _ _ _ hz
  have hl : lv_has ls 2 [(0, .ref (a 0)), (1, .int p1)] := hl
  unfold fX6_stand at hrun
  refine lv_aload_n hx hb dX6_stand_0 rfl (lv_at hl 0 rfl) ?_
  refine lv_iload_n hx hb dX6_stand_1 rfl (lv_at hl 1 rfl) ?_
  refine lv_iconst (v := (1 : Int32)) hx hb dX6_stand_2 (by decide) ?_
  refine lv_sipush (v := (9999 : Int32)) hx hb dX6_stand_3 (by decide) ?_
  obtain ⟨r_2, hc_1, hrun⟩ := mob_s rfl hrun
  refine cRS (ws := []) (As := [.int p1, .int (1 : Int32), .int (9999 : Int32)]) ⟨hx, hb, hml, hown, hts⟩ hOK hz hS zP0 (mtX6_isIn l D Z hOK _ _ _ _ hc_1) (kX6_isIn hts q1981 rfl rfl ⟨Nat.le_of_ble_eq_true rfl, Nat.le_of_ble_eq_true rfl⟩) rfl hl.1 rfl (lv_room (Nat.le_of_ble_eq_true rfl)) ⟨Nat.le_of_ble_eq_true rfl, Nat.le_of_ble_eq_true rfl⟩ dX6_stand_6 ?_
  obtain ⟨K_6, hK_6, hrun⟩ := mjn_s hrun
  have hj_4 : ∀ (y_5 : Bool), ∀ (H : Heap) (locs : List Loc), va_P D zCl (cT k a t) H → va_D A (cT k a t) → va_S A s.heap H locs → ∀ ls : Array Slot, lv_has ls 2 [(0, .ref (a 0)), (1, .int p1)] → K_6 y_5 = some (r, tt) → W p l e rX6_stand s m args below meth c H locs 0 0 (MQ below (QWr (fun r' w' => r' = (some (.int r)) ∧ w' = cT k a tt) D zCl A) args s 0 0 A) (F0 m 17 ls [.int (bz y_5), .ref (a 0)]) := by
    intro y_5 H locs hP hD hS ls hl hrun
    rw [hK_6] at hrun
    refine va_put (ci := 0) (v := .int (bz y_5)) (ty := tyX6 0) (C := RX6) (T := TX6) (N := 22) hx hb hts in_X6 tyX6 tyX6_ok nmX6 hown hK hP hD hS 0 rfl rfl 0 (by decide) (hts _ q1902) (fun _ h9 => h9) rfl (tyX6_ok 0 (by decide)) rfl rfl (Nat.le_of_ble_eq_true rfl) dX6_stand_17 (fun H locs hP hD hS => ?_)
    have hP : va_P D zCl (cT k a (tw_s_thrown t (bz y_5))) H := hP
    have hD : va_D A (cT k a (tw_s_thrown t (bz y_5))) := hD
    obtain ⟨t_7, et_7⟩ : ∃ z : Tw, z = (tw_s_thrown t (bz y_5)) := ⟨_, rfl⟩
    rw [← et_7] at hP hD
    have hrun := mlt_s hrun t_7 et_7
    refine lv_aload_n hx hb dX6_stand_20 rfl (lv_at hl 0 rfl) ?_
    refine va_get (ci := 0) (v := .int (tw_thrown t_7)) (C := RX6) (T := TX6) (N := 22) hx hb hts in_X6 hown hK hP 0 rfl rfl 0 (by decide) (hts _ q1902) (fun _ h9 => h9) rfl dX6_stand_21 ?_
    refine lv_if_le (tgt := 31) hx hb dX6_stand_24 (by decide) (fun c_8 => ?_) (fun c_8 => ?_)
    · have hrun := mif_p c_8 hrun
      refine lv_aload_n hx hb dX6_stand_31 rfl (lv_at hl 0 rfl) ?_
      refine lv_iload_n hx hb dX6_stand_32 rfl (lv_at hl 1 rfl) ?_
      obtain ⟨r_11, t_10, hc_9, hrun⟩ := mo2_s rfl hrun
      refine cWV00 (As := [.int p1]) (ci := 0) ⟨hx, hb, hml, hown, hts⟩ hOK hz hS hA hP hD (mtX6_builtBy l D k a Z hOK _ _ _ _ hc_9) (kX6_builtBy hts q2296 rfl rfl ⟨Nat.le_of_ble_eq_true rfl, Nat.le_of_ble_eq_true rfl⟩) 0 rfl rfl rfl hl.1 rfl (lv_room (Nat.le_of_ble_eq_true rfl)) ⟨Nat.le_of_ble_eq_true rfl, Nat.le_of_ble_eq_true rfl⟩ dX6_stand_33 (fun r_ w_ H locs hq hP hD hS => ?_)
      obtain ⟨rfl, rfl⟩ := hq
      cases hrun
      exact retW_i hx hb hr hlocks hP hD hS ⟨rfl, rfl⟩ dX6_stand_36
    have hrun := mif_n c_8 hrun
    refine lv_iconst (v := (0 : Int32)) hx hb dX6_stand_27 (by decide) ?_
    refine lv_goto (tgt := 36) hx hb dX6_stand_28 (by decide) ?_
    cases hrun
    exact retW_i hx hb hr hlocks hP hD hS ⟨rfl, rfl⟩ dX6_stand_36
  refine lv_if_ne (tgt := 16) hx hb dX6_stand_9 (by decide) (fun c_3 => ?_) (fun c_3 => ?_)
  · have hrun := mif_p (bz_nz c_3) hrun
    refine lv_iconst (v := (0 : Int32)) hx hb dX6_stand_16 (by decide) ?_
    exact hj_4 false _ _ hP hD hS ls (lv_sub hl [0, 1] rfl) hrun
  have hrun := mif_n (bz_z c_3) hrun
  refine lv_iconst (v := (1 : Int32)) hx hb dX6_stand_12 (by decide) ?_
  refine lv_goto (tgt := 17) hx hb dX6_stand_13 (by decide) ?_
  exact hj_4 true _ _ hP hD hS ls (lv_sub hl [0, 1] rfl) hrun
def rX6_oddsOf : Room := { frames := 2, cells := 0, slots := 0, locals := 43 }
noncomputable def fX6_oddsOf_L8 (t : Tw) (K_4 : Int64 → Int64 → Option (Int32)) (p1 : Int32) : Nat → Int64 → Int64 → Int32 → Option (Int32)
  | 0, _, _, _ => none
  | n + 1, x2_7, x4_8, x6_9 =>
    if ((tw_m t) 3) ≤ x6_9 then
      K_4 x2_7 x4_8
    else
      mob (fX6_isOf p1 x6_9) fun r_12 =>
      if r_12 = true then
        mob (fX6_risk t x6_9) fun r_15 =>
        fX6_oddsOf_L8 t K_4 p1 n (x2_7 * (10 : Int64)) (x4_8 * (((10 : Int32) - r_15)).toInt64) (x6_9 + (1 : Int32))
      else
        fX6_oddsOf_L8 t K_4 p1 n x2_7 x4_8 (x6_9 + (1 : Int32))
noncomputable def fX6_oddsOf (t : Tw) (p1 : Int32) : Option (Int32) :=
  mjn (fun (x2_2 : Int64) (x4_3 : Int64) =>
  mnl x2_2 <|
  some (((((x2_2 - x4_3) * (10000 : Int64)) / x2_2)).toInt32)) fun K_4 =>
  fX6_oddsOf_L8 t K_4 p1 mFU (1 : Int64) (1 : Int64) (0 : Int32)
theorem kX6_oddsOf {R : Room} {s : State} {args : Array Value} {own : String} {idx mc ms : Nat} {rm : Room} (hts : ∀ w ∈ lw_all, w.before args s = true) (hl : Cond.methodLink own idx yX6_oddsOf ∈ lw_all) (hrc : rm.cells = mc) (hrs : rm.slots = ms) (hR : rm.frames + 1 ≤ R.frames ∧ 8 + (7 + 11) + rm.locals ≤ R.locals) : CallW R s args own RX6 idx yX6_oddsOf cX6_oddsOf 7 (some .int) (ws_ yX6_oddsOf cX6_oddsOf 7 (some .int)) rm mc ms 1 :=
  cwV 1 hts (lw_V hl q2310 qs93 q115 q2311) rfl hrc hrs (by decide +kernel) hR
set_option maxHeartbeats 4000000 in
set_option maxRecDepth 100000 in
theorem mtX6_oddsOf (l : Launch) (D : va_G) (k : Nat → ClassId) (a : Nat → Nat) (Z : zZ) (hOK : zOK D zCl (zTys k) Z) (t : Tw) (p1 : Int32) (r : Int32) (hrun : fX6_oddsOf t p1 = some r) :
    CtR l yX6_oddsOf cX6_oddsOf 7 (some .int) rX6_oddsOf Z D zCl (cT k a t) [.ref (a 0), .int p1] (some (.int r)) := by
  refine CtR.of (by decide) (Nat.le_of_ble_eq_true rfl) ?_
  intro p e s m args below meth c hE hP hz ls hl
  obtain ⟨hx, hb, hr, hml, hown, hts, hlocks, hname⟩ := hE
  have hown : s.vm.findClass RX6 = some m.cls := hown
  have hK := hOK.1 _ _ _ hz
  have hl : lv_has ls 7 [(0, .ref (a 0)), (1, .int p1)] := hl
  unfold fX6_oddsOf at hrun
  refine lv_lconst (v := (1 : Int64)) hx hb dX6_oddsOf_0 (by decide) ?_
  refine lv_lstore_n (lv' := [(2, .long (1 : Int64)), (0, .ref (a 0)), (1, .int p1)]) hx hb dX6_oddsOf_1 rfl hl (by decide) rfl (fun ls hl => ?_)
  refine lv_lconst (v := (1 : Int64)) hx hb dX6_oddsOf_2 (by decide) ?_
  refine lv_lstore (lv' := [(4, .long (1 : Int64)), (2, .long (1 : Int64)), (0, .ref (a 0)), (1, .int p1)]) hx hb dX6_oddsOf_3 hl (by decide) rfl (fun ls hl => ?_)
  refine lv_iconst (v := (0 : Int32)) hx hb dX6_oddsOf_5 (by decide) ?_
  refine lv_istore (lv' := [(6, .int (0 : Int32)), (4, .long (1 : Int64)), (2, .long (1 : Int64)), (0, .ref (a 0)), (1, .int p1)]) hx hb dX6_oddsOf_6 hl (by decide) rfl (fun ls hl => ?_)
  obtain ⟨K_4, hK_4, hrun⟩ := mjn_s hrun
  have hj_1 : ∀ (x2_2 : Int64) (x4_3 : Int64), ∀ ls : Array Slot, lv_has ls 7 [(2, .long x2_2), (4, .long x4_3)] → K_4 x2_2 x4_3 = some r → W p l e rX6_oddsOf s m args below meth c s.heap [] 0 0 (MQ below (QRr (some (.int r))) args s 0 0 (fun _ => False)) (F0 m 58 ls []) := by
    intro x2_2 x4_3 ls hl hrun
    rw [hK_4] at hrun
    refine lv_lload_n hx hb dX6_oddsOf_58 rfl (lv_at hl 0 rfl) ?_
    refine lv_lload hx hb dX6_oddsOf_59 (lv_at hl 1 rfl) ?_
    refine lv_lsub hx hb dX6_oddsOf_61 ?_
    refine lv_ldc2 (v := (10000 : Int64)) hx hb hown (hts _ q2313) dX6_oddsOf_62 ?_
    refine lv_lmul hx hb dX6_oddsOf_65 ?_
    refine lv_lload_n hx hb dX6_oddsOf_66 rfl (lv_at hl 0 rfl) ?_
    obtain ⟨hn_5, hrun⟩ := mnl_s rfl hrun
    refine lv_ldiv hx hb dX6_oddsOf_67 hn_5 ?_
    refine lv_l2i (v := ((((x2_2 - x4_3) * (10000 : Int64)) / x2_2)).toInt32) hx hb dX6_oddsOf_68 rfl ?_
    cases hrun
    exact retR_i hx hb hr hlocks rfl dX6_oddsOf_69
  have hL_6 : ∀ n : Nat, ∀ (x2_7 : Int64) (x4_8 : Int64) (x6_9 : Int32), ∀ ls : Array Slot, lv_has ls 7 [(0, .ref (a 0)), (1, .int p1), (2, .long x2_7), (4, .long x4_8), (6, .int x6_9)] → fX6_oddsOf_L8 t K_4 p1 n x2_7 x4_8 x6_9 = some r → W p l e rX6_oddsOf s m args below meth c s.heap [] 0 0 (MQ below (QRr (some (.int r))) args s 0 0 (fun _ => False)) (F0 m 8 ls []) := by
    intro n
    induction n with
    | zero =>
      intro x2_7 x4_8 x6_9 ls hl hrun
      exact nomatch hrun
    | succ n ih =>
      intro x2_7 x4_8 x6_9 ls hl hrun
      rw [fX6_oddsOf_L8.eq_2] at hrun
      refine lv_iload hx hb dX6_oddsOf_8 (lv_at hl 4 rfl) ?_
      refine lv_aload_n hx hb dX6_oddsOf_10 rfl (lv_at hl 0 rfl) ?_
      refine va_get (ci := 0) (v := .ref (a 1)) (C := RX6) (T := TX6) (N := 22) hx hb hts in_X6 hown hK hP 0 rfl rfl 1 (by decide) (hts _ q1903) (fun _ h9 => h9) rfl dX6_oddsOf_11 ?_
      refine lv_iconst (v := (3 : Int32)) hx hb dX6_oddsOf_14 (by decide) ?_
      refine va_ialdk (k := 3) hx hb hK hP 1 0 rfl rfl rfl (show ¬ _ from by decide) dX6_oddsOf_15 ?_
      refine lv_icmp_ge (tgt := 58) hx hb dX6_oddsOf_16 (by decide) (fun c_10 => ?_) (fun c_10 => ?_)
      · have hrun := mif_p c_10 hrun
        exact hj_1 x2_7 x4_8 ls (lv_sub hl [2, 3] rfl) hrun
      have hrun := mif_n c_10 hrun
      refine lv_iload_n hx hb dX6_oddsOf_19 rfl (lv_at hl 1 rfl) ?_
      refine lv_iload hx hb dX6_oddsOf_20 (lv_at hl 4 rfl) ?_
      obtain ⟨r_12, hc_11, hrun⟩ := mob_s rfl hrun
      refine cRS (ws := []) (As := [.int p1, .int x6_9]) ⟨hx, hb, hml, hown, hts⟩ hOK hz va_S.rf zP0 (mtX6_isOf l D Z hOK _ _ _ hc_11) (kX6_isOf hts q2175 rfl rfl ⟨Nat.le_of_ble_eq_true rfl, Nat.le_of_ble_eq_true rfl⟩) rfl hl.1 rfl (lv_room (Nat.le_of_ble_eq_true rfl)) ⟨Nat.le_of_ble_eq_true rfl, Nat.le_of_ble_eq_true rfl⟩ dX6_oddsOf_22 ?_
      refine lv_if_ne (tgt := 31) hx hb dX6_oddsOf_25 (by decide) (fun c_13 => ?_) (fun c_13 => ?_)
      · have hrun := mif_p (bz_nz c_13) hrun
        refine lv_lload_n hx hb dX6_oddsOf_31 rfl (lv_at hl 2 rfl) ?_
        refine lv_ldc2 (v := (10 : Int64)) hx hb hown (hts _ q2312) dX6_oddsOf_32 ?_
        refine lv_lmul hx hb dX6_oddsOf_35 ?_
        refine lv_lstore_n (lv' := [(2, .long (x2_7 * (10 : Int64))), (0, .ref (a 0)), (1, .int p1), (4, .long x4_8), (6, .int x6_9)]) hx hb dX6_oddsOf_36 rfl hl (by decide) rfl (fun ls hl => ?_)
        refine lv_lload hx hb dX6_oddsOf_37 (lv_at hl 3 rfl) ?_
        refine lv_bipush (v := (10 : Int32)) hx hb dX6_oddsOf_39 (by decide) ?_
        refine lv_aload_n hx hb dX6_oddsOf_41 rfl (lv_at hl 1 rfl) ?_
        refine lv_iload hx hb dX6_oddsOf_42 (lv_at hl 4 rfl) ?_
        obtain ⟨r_15, hc_14, hrun⟩ := mob_s rfl hrun
        refine cRV (As := [.int x6_9]) (ci := 0) ⟨hx, hb, hml, hown, hts⟩ hOK hz va_S.rf hP (mtX6_risk l D k a Z hOK _ _ _ hc_14) (kX6_risk hts q2140 rfl rfl ⟨Nat.le_of_ble_eq_true rfl, Nat.le_of_ble_eq_true rfl⟩) 0 rfl rfl rfl hl.1 rfl (lv_room (Nat.le_of_ble_eq_true rfl)) ⟨Nat.le_of_ble_eq_true rfl, Nat.le_of_ble_eq_true rfl⟩ dX6_oddsOf_44 ?_
        refine lv_isub hx hb dX6_oddsOf_47 ?_
        refine lv_i2l (v := (((10 : Int32) - r_15)).toInt64) hx hb dX6_oddsOf_48 rfl ?_
        refine lv_lmul hx hb dX6_oddsOf_49 ?_
        refine lv_lstore (lv' := [(4, .long (x4_8 * (((10 : Int32) - r_15)).toInt64)), (2, .long (x2_7 * (10 : Int64))), (0, .ref (a 0)), (1, .int p1), (6, .int x6_9)]) hx hb dX6_oddsOf_50 hl (by decide) rfl (fun ls hl => ?_)
        refine lv_iinc (v := (x6_9 + (1 : Int32))) (lv' := [(6, .int (x6_9 + (1 : Int32))), (4, .long (x4_8 * (((10 : Int32) - r_15)).toInt64)), (2, .long (x2_7 * (10 : Int64))), (0, .ref (a 0)), (1, .int p1)]) hx hb dX6_oddsOf_52 hl (k := 4) rfl rfl (by decide) rfl (fun ls hl => ?_)
        refine lv_goto (tgt := 8) hx hb dX6_oddsOf_55 (by decide) ?_
        exact ih (x2_7 * (10 : Int64)) (x4_8 * (((10 : Int32) - r_15)).toInt64) (x6_9 + (1 : Int32)) ls (lv_sub hl [3, 4, 2, 1, 0] rfl) hrun
      have hrun := mif_n (bz_z c_13) hrun
      refine lv_goto (tgt := 52) hx hb dX6_oddsOf_28 (by decide) ?_
      refine lv_iinc (v := (x6_9 + (1 : Int32))) (lv' := [(6, .int (x6_9 + (1 : Int32))), (0, .ref (a 0)), (1, .int p1), (2, .long x2_7), (4, .long x4_8)]) hx hb dX6_oddsOf_52 hl (k := 4) rfl rfl (by decide) rfl (fun ls hl => ?_)
      refine lv_goto (tgt := 8) hx hb dX6_oddsOf_55 (by decide) ?_
      exact ih x2_7 x4_8 (x6_9 + (1 : Int32)) ls (lv_sub hl [1, 2, 3, 4, 0] rfl) hrun
  exact hL_6 mFU (1 : Int64) (1 : Int64) (0 : Int32) ls (lv_sub hl [3, 4, 2, 1, 0] rfl) hrun
def rX6_shuts : Room := { frames := 1, cells := 0, slots := 0, locals := 21 }
noncomputable def fX6_shuts_L2 (p1 : Int32) (t : Tw) : Nat → Int32 → Option (Bool)
  | 0, _ => none
  | n + 1, x2_2 =>
    if (8 : Int32) ≤ x2_2 then
      some true
    else
      mob (fX6_isOf p1 x2_2) fun r_5 =>
      if r_5 = true then
        fX6_shuts_L2 p1 t n (x2_2 + (1 : Int32))
      else
        mck ((16 : Int32) + x2_2) 704 <|
        if (((tw_m t) (Int32.toNatClampNeg ((16 : Int32) + x2_2))) &&& (p1 ^^^ (-1 : Int32))) = (0 : Int32) then
          fX6_shuts_L2 p1 t n (x2_2 + (1 : Int32))
        else
          some false
noncomputable def fX6_shuts (t : Tw) (p1 : Int32) : Option (Bool) :=
  fX6_shuts_L2 p1 t mFU (0 : Int32)
theorem kX6_shuts {R : Room} {s : State} {args : Array Value} {own : String} {idx mc ms : Nat} {rm : Room} (hts : ∀ w ∈ lw_all, w.before args s = true) (hl : Cond.methodLink own idx yX6_shuts ∈ lw_all) (hrc : rm.cells = mc) (hrs : rm.slots = ms) (hR : rm.frames + 1 ≤ R.frames ∧ 8 + (3 + 11) + rm.locals ≤ R.locals) : CallW R s args own RX6 idx yX6_shuts cX6_shuts 3 (some .boolean) (ws_ yX6_shuts cX6_shuts 3 (some .boolean)) rm mc ms 1 :=
  cwV 1 hts (lw_V hl q2332 qs94 q115 q2333) rfl hrc hrs (by decide +kernel) hR
set_option maxHeartbeats 4000000 in
set_option maxRecDepth 100000 in
theorem mtX6_shuts (l : Launch) (D : va_G) (k : Nat → ClassId) (a : Nat → Nat) (Z : zZ) (hOK : zOK D zCl (zTys k) Z) (t : Tw) (p1 : Int32) (r : Bool) (hrun : fX6_shuts t p1 = some r) :
    CtR l yX6_shuts cX6_shuts 3 (some .boolean) rX6_shuts Z D zCl (cT k a t) [.ref (a 0), .int p1] (some (.int (bz r))) := by
  refine CtR.of (by decide) (Nat.le_of_ble_eq_true rfl) ?_
  intro p e s m args below meth c hE hP hz ls hl
  obtain ⟨hx, hb, hr, hml, hown, hts, hlocks, hname⟩ := hE
  have hown : s.vm.findClass RX6 = some m.cls := hown
  have hK := hOK.1 _ _ _ hz
  have hl : lv_has ls 3 [(0, .ref (a 0)), (1, .int p1)] := hl
  unfold fX6_shuts at hrun
  refine lv_iconst (v := (0 : Int32)) hx hb dX6_shuts_0 (by decide) ?_
  refine lv_istore_n (lv' := [(2, .int (0 : Int32)), (0, .ref (a 0)), (1, .int p1)]) hx hb dX6_shuts_1 rfl hl (by decide) rfl (fun ls hl => ?_)
  have hL_1 : ∀ n : Nat, ∀ (x2_2 : Int32), ∀ ls : Array Slot, lv_has ls 3 [(0, .ref (a 0)), (1, .int p1), (2, .int x2_2)] → fX6_shuts_L2 p1 t n x2_2 = some r → W p l e rX6_shuts s m args below meth c s.heap [] 0 0 (MQ below (QRr (some (.int (bz r)))) args s 0 0 (fun _ => False)) (F0 m 2 ls []) := by
    intro n
    induction n with
    | zero =>
      intro x2_2 ls hl hrun
      exact nomatch hrun
    | succ n ih =>
      intro x2_2 ls hl hrun
      rw [fX6_shuts_L2.eq_2] at hrun
      refine lv_iload_n hx hb dX6_shuts_2 rfl (lv_at hl 2 rfl) ?_
      refine lv_bipush (v := (8 : Int32)) hx hb dX6_shuts_3 (by decide) ?_
      refine lv_icmp_ge (tgt := 40) hx hb dX6_shuts_5 (by decide) (fun c_3 => ?_) (fun c_3 => ?_)
      · have hrun := mif_p c_3 hrun
        refine lv_iconst (v := (1 : Int32)) hx hb dX6_shuts_40 (by decide) ?_
        cases hrun
        exact retR_z (v := true) hx hb hr hlocks rfl dX6_shuts_41
      have hrun := mif_n c_3 hrun
      refine lv_iload_n hx hb dX6_shuts_8 rfl (lv_at hl 1 rfl) ?_
      refine lv_iload_n hx hb dX6_shuts_9 rfl (lv_at hl 2 rfl) ?_
      obtain ⟨r_5, hc_4, hrun⟩ := mob_s rfl hrun
      refine cRS (ws := []) (As := [.int p1, .int x2_2]) ⟨hx, hb, hml, hown, hts⟩ hOK hz va_S.rf zP0 (mtX6_isOf l D Z hOK _ _ _ hc_4) (kX6_isOf hts q2175 rfl rfl ⟨Nat.le_of_ble_eq_true rfl, Nat.le_of_ble_eq_true rfl⟩) rfl hl.1 rfl (lv_room (Nat.le_of_ble_eq_true rfl)) ⟨Nat.le_of_ble_eq_true rfl, Nat.le_of_ble_eq_true rfl⟩ dX6_shuts_10 ?_
      refine lv_if_ne (tgt := 34) hx hb dX6_shuts_13 (by decide) (fun c_6 => ?_) (fun c_6 => ?_)
      · have hrun := mif_p (bz_nz c_6) hrun
        refine lv_iinc (v := (x2_2 + (1 : Int32))) (lv' := [(2, .int (x2_2 + (1 : Int32))), (0, .ref (a 0)), (1, .int p1)]) hx hb dX6_shuts_34 hl (k := 2) rfl rfl (by decide) rfl (fun ls hl => ?_)
        refine lv_goto (tgt := 2) hx hb dX6_shuts_37 (by decide) ?_
        exact ih (x2_2 + (1 : Int32)) ls (lv_sub hl [1, 2, 0] rfl) hrun
      have hrun := mif_n (bz_z c_6) hrun
      refine lv_aload_n hx hb dX6_shuts_16 rfl (lv_at hl 0 rfl) ?_
      refine va_get (ci := 0) (v := .ref (a 1)) (C := RX6) (T := TX6) (N := 22) hx hb hts in_X6 hown hK hP 0 rfl rfl 1 (by decide) (hts _ q1903) (fun _ h9 => h9) rfl dX6_shuts_17 ?_
      refine lv_bipush (v := (16 : Int32)) hx hb dX6_shuts_20 (by decide) ?_
      refine lv_iload_n hx hb dX6_shuts_22 rfl (lv_at hl 2 rfl) ?_
      refine lv_iadd hx hb dX6_shuts_23 ?_
      obtain ⟨hb_7, hrun⟩ := mck_s rfl hrun
      refine va_iald hx hb hK hP 1 0 rfl rfl hb_7 dX6_shuts_24 ?_
      refine lv_iload_n hx hb dX6_shuts_25 rfl (lv_at hl 1 rfl) ?_
      refine lv_iconst (v := (-1 : Int32)) hx hb dX6_shuts_26 (by decide) ?_
      refine lv_ixor hx hb dX6_shuts_27 ?_
      refine lv_iand hx hb dX6_shuts_28 ?_
      refine lv_if_eq (tgt := 34) hx hb dX6_shuts_29 (by decide) (fun c_8 => ?_) (fun c_8 => ?_)
      · have hrun := mif_p c_8 hrun
        refine lv_iinc (v := (x2_2 + (1 : Int32))) (lv' := [(2, .int (x2_2 + (1 : Int32))), (0, .ref (a 0)), (1, .int p1)]) hx hb dX6_shuts_34 hl (k := 2) rfl rfl (by decide) rfl (fun ls hl => ?_)
        refine lv_goto (tgt := 2) hx hb dX6_shuts_37 (by decide) ?_
        exact ih (x2_2 + (1 : Int32)) ls (lv_sub hl [1, 2, 0] rfl) hrun
      have hrun := mif_n c_8 hrun
      refine lv_iconst (v := (0 : Int32)) hx hb dX6_shuts_32 (by decide) ?_
      cases hrun
      exact retR_z (v := false) hx hb hr hlocks rfl dX6_shuts_33
  exact hL_1 mFU (0 : Int32) ls (lv_sub hl [1, 2, 0] rfl) hrun
def rX6_risksOf : Room := { frames := 2, cells := 0, slots := 0, locals := 43 }
noncomputable def fX6_risksOf_L4 (t : Tw) (p1 : Int32) : Nat → Int32 → Int32 → Option (Int32)
  | 0, _, _ => none
  | n + 1, x2_2, x3_3 =>
    if ((tw_m t) 3) ≤ x3_3 then
      some x2_2
    else
      mob (fX6_isOf p1 x3_3) fun r_6 =>
      if r_6 = true then
        mob (fX6_risk t x3_3) fun r_9 =>
        fX6_risksOf_L4 t p1 n (x2_2 + r_9) (x3_3 + (1 : Int32))
      else
        fX6_risksOf_L4 t p1 n (x2_2 + (0 : Int32)) (x3_3 + (1 : Int32))
noncomputable def fX6_risksOf (t : Tw) (p1 : Int32) : Option (Int32) :=
  fX6_risksOf_L4 t p1 mFU (0 : Int32) (0 : Int32)
theorem kX6_risksOf {R : Room} {s : State} {args : Array Value} {own : String} {idx mc ms : Nat} {rm : Room} (hts : ∀ w ∈ lw_all, w.before args s = true) (hl : Cond.methodLink own idx yX6_risksOf ∈ lw_all) (hrc : rm.cells = mc) (hrs : rm.slots = ms) (hR : rm.frames + 1 ≤ R.frames ∧ 8 + (4 + 11) + rm.locals ≤ R.locals) : CallW R s args own RX6 idx yX6_risksOf cX6_risksOf 4 (some .int) (ws_ yX6_risksOf cX6_risksOf 4 (some .int)) rm mc ms 1 :=
  cwV 1 hts (lw_V hl q2344 qs95 q115 q2345) rfl hrc hrs (by decide +kernel) hR
set_option maxHeartbeats 4000000 in
set_option maxRecDepth 100000 in
theorem mtX6_risksOf (l : Launch) (D : va_G) (k : Nat → ClassId) (a : Nat → Nat) (Z : zZ) (hOK : zOK D zCl (zTys k) Z) (t : Tw) (p1 : Int32) (r : Int32) (hrun : fX6_risksOf t p1 = some r) :
    CtR l yX6_risksOf cX6_risksOf 4 (some .int) rX6_risksOf Z D zCl (cT k a t) [.ref (a 0), .int p1] (some (.int r)) := by
  refine CtR.of (by decide) (Nat.le_of_ble_eq_true rfl) ?_
  intro p e s m args below meth c hE hP hz ls hl
  obtain ⟨hx, hb, hr, hml, hown, hts, hlocks, hname⟩ := hE
  have hown : s.vm.findClass RX6 = some m.cls := hown
  have hK := hOK.1 _ _ _ hz
  have hl : lv_has ls 4 [(0, .ref (a 0)), (1, .int p1)] := hl
  unfold fX6_risksOf at hrun
  refine lv_iconst (v := (0 : Int32)) hx hb dX6_risksOf_0 (by decide) ?_
  refine lv_istore_n (lv' := [(2, .int (0 : Int32)), (0, .ref (a 0)), (1, .int p1)]) hx hb dX6_risksOf_1 rfl hl (by decide) rfl (fun ls hl => ?_)
  refine lv_iconst (v := (0 : Int32)) hx hb dX6_risksOf_2 (by decide) ?_
  refine lv_istore_n (lv' := [(3, .int (0 : Int32)), (2, .int (0 : Int32)), (0, .ref (a 0)), (1, .int p1)]) hx hb dX6_risksOf_3 rfl hl (by decide) rfl (fun ls hl => ?_)
  have hL_1 : ∀ n : Nat, ∀ (x2_2 : Int32) (x3_3 : Int32), ∀ ls : Array Slot, lv_has ls 4 [(0, .ref (a 0)), (1, .int p1), (2, .int x2_2), (3, .int x3_3)] → fX6_risksOf_L4 t p1 n x2_2 x3_3 = some r → W p l e rX6_risksOf s m args below meth c s.heap [] 0 0 (MQ below (QRr (some (.int r))) args s 0 0 (fun _ => False)) (F0 m 4 ls []) := by
    intro n
    induction n with
    | zero =>
      intro x2_2 x3_3 ls hl hrun
      exact nomatch hrun
    | succ n ih =>
      intro x2_2 x3_3 ls hl hrun
      rw [fX6_risksOf_L4.eq_2] at hrun
      refine lv_iload_n hx hb dX6_risksOf_4 rfl (lv_at hl 3 rfl) ?_
      refine lv_aload_n hx hb dX6_risksOf_5 rfl (lv_at hl 0 rfl) ?_
      refine va_get (ci := 0) (v := .ref (a 1)) (C := RX6) (T := TX6) (N := 22) hx hb hts in_X6 hown hK hP 0 rfl rfl 1 (by decide) (hts _ q1903) (fun _ h9 => h9) rfl dX6_risksOf_6 ?_
      refine lv_iconst (v := (3 : Int32)) hx hb dX6_risksOf_9 (by decide) ?_
      refine va_ialdk (k := 3) hx hb hK hP 1 0 rfl rfl rfl (show ¬ _ from by decide) dX6_risksOf_10 ?_
      refine lv_icmp_ge (tgt := 40) hx hb dX6_risksOf_11 (by decide) (fun c_4 => ?_) (fun c_4 => ?_)
      · have hrun := mif_p c_4 hrun
        refine lv_iload_n hx hb dX6_risksOf_40 rfl (lv_at hl 2 rfl) ?_
        cases hrun
        exact retR_i hx hb hr hlocks rfl dX6_risksOf_41
      have hrun := mif_n c_4 hrun
      refine lv_iload_n hx hb dX6_risksOf_14 rfl (lv_at hl 2 rfl) ?_
      refine lv_iload_n hx hb dX6_risksOf_15 rfl (lv_at hl 1 rfl) ?_
      refine lv_iload_n hx hb dX6_risksOf_16 rfl (lv_at hl 3 rfl) ?_
      obtain ⟨r_6, hc_5, hrun⟩ := mob_s rfl hrun
      refine cRS (ws := []) (As := [.int p1, .int x3_3]) ⟨hx, hb, hml, hown, hts⟩ hOK hz va_S.rf zP0 (mtX6_isOf l D Z hOK _ _ _ hc_5) (kX6_isOf hts q2175 rfl rfl ⟨Nat.le_of_ble_eq_true rfl, Nat.le_of_ble_eq_true rfl⟩) rfl hl.1 rfl (lv_room (Nat.le_of_ble_eq_true rfl)) ⟨Nat.le_of_ble_eq_true rfl, Nat.le_of_ble_eq_true rfl⟩ dX6_risksOf_17 ?_
      refine lv_if_eq (tgt := 31) hx hb dX6_risksOf_20 (by decide) (fun c_7 => ?_) (fun c_7 => ?_)
      · have hrun := mif_n (bz_z c_7) hrun
        refine lv_iconst (v := (0 : Int32)) hx hb dX6_risksOf_31 (by decide) ?_
        refine lv_iadd hx hb dX6_risksOf_32 ?_
        refine lv_istore_n (lv' := [(2, .int (x2_2 + (0 : Int32))), (0, .ref (a 0)), (1, .int p1), (3, .int x3_3)]) hx hb dX6_risksOf_33 rfl hl (by decide) rfl (fun ls hl => ?_)
        refine lv_iinc (v := (x3_3 + (1 : Int32))) (lv' := [(3, .int (x3_3 + (1 : Int32))), (2, .int (x2_2 + (0 : Int32))), (0, .ref (a 0)), (1, .int p1)]) hx hb dX6_risksOf_34 hl (k := 3) rfl rfl (by decide) rfl (fun ls hl => ?_)
        refine lv_goto (tgt := 4) hx hb dX6_risksOf_37 (by decide) ?_
        exact ih (x2_2 + (0 : Int32)) (x3_3 + (1 : Int32)) ls (lv_sub hl [2, 3, 1, 0] rfl) hrun
      have hrun := mif_p (bz_nz c_7) hrun
      refine lv_aload_n hx hb dX6_risksOf_23 rfl (lv_at hl 0 rfl) ?_
      refine lv_iload_n hx hb dX6_risksOf_24 rfl (lv_at hl 3 rfl) ?_
      obtain ⟨r_9, hc_8, hrun⟩ := mob_s rfl hrun
      refine cRV (As := [.int x3_3]) (ci := 0) ⟨hx, hb, hml, hown, hts⟩ hOK hz va_S.rf hP (mtX6_risk l D k a Z hOK _ _ _ hc_8) (kX6_risk hts q2140 rfl rfl ⟨Nat.le_of_ble_eq_true rfl, Nat.le_of_ble_eq_true rfl⟩) 0 rfl rfl rfl hl.1 rfl (lv_room (Nat.le_of_ble_eq_true rfl)) ⟨Nat.le_of_ble_eq_true rfl, Nat.le_of_ble_eq_true rfl⟩ dX6_risksOf_25 ?_
      refine lv_goto (tgt := 32) hx hb dX6_risksOf_28 (by decide) ?_
      refine lv_iadd hx hb dX6_risksOf_32 ?_
      refine lv_istore_n (lv' := [(2, .int (x2_2 + r_9)), (0, .ref (a 0)), (1, .int p1), (3, .int x3_3)]) hx hb dX6_risksOf_33 rfl hl (by decide) rfl (fun ls hl => ?_)
      refine lv_iinc (v := (x3_3 + (1 : Int32))) (lv' := [(3, .int (x3_3 + (1 : Int32))), (2, .int (x2_2 + r_9)), (0, .ref (a 0)), (1, .int p1)]) hx hb dX6_risksOf_34 hl (k := 3) rfl rfl (by decide) rfl (fun ls hl => ?_)
      refine lv_goto (tgt := 4) hx hb dX6_risksOf_37 (by decide) ?_
      exact ih (x2_2 + r_9) (x3_3 + (1 : Int32)) ls (lv_sub hl [2, 3, 1, 0] rfl) hrun
  exact hL_1 mFU (0 : Int32) (0 : Int32) ls (lv_sub hl [2, 3, 1, 0] rfl) hrun
def rX6_hostHas : Room := { frames := 0, cells := 0, slots := 0, locals := 0 }
noncomputable def fX6_hostHas (t : Tw) (p1 : Bool) (p2 : Int32) (p3 : Int32) : Option (Int32) :=
  if p2 = (1 : Int32) then
    some (0 : Int32)
  else
    if p1 = true then
      if p3 = (0 : Int32) then
        some (-20 : Int32)
      else
        some (10 : Int32)
    else
      some (10 : Int32)
theorem kX6_hostHas {R : Room} {s : State} {args : Array Value} {own : String} {idx mc ms : Nat} {rm : Room} (hts : ∀ w ∈ lw_all, w.before args s = true) (hl : Cond.methodLink own idx yX6_hostHas ∈ lw_all) (hrc : rm.cells = mc) (hrs : rm.slots = ms) (hR : rm.frames + 1 ≤ R.frames ∧ 8 + (4 + 11) + rm.locals ≤ R.locals) : CallW R s args own RX6 idx yX6_hostHas cX6_hostHas 4 (some .int) (ws_ yX6_hostHas cX6_hostHas 4 (some .int)) rm mc ms 3 :=
  cwV 3 hts (lw_V hl q2361 qs97 q115 q2362) rfl hrc hrs (by decide +kernel) hR
set_option maxHeartbeats 4000000 in
set_option maxRecDepth 100000 in
theorem mtX6_hostHas (l : Launch) (D : va_G) (k : Nat → ClassId) (a : Nat → Nat) (Z : zZ) (hOK : zOK D zCl (zTys k) Z) (t : Tw) (p1 : Bool) (p2 : Int32) (p3 : Int32) (r : Int32) (hrun : fX6_hostHas t p1 p2 p3 = some r) :
    CtR l yX6_hostHas cX6_hostHas 4 (some .int) rX6_hostHas Z D zCl (cT k a t) [.ref (a 0), .int (bz p1), .int p2, .int p3] (some (.int r)) := by
  refine CtR.of (by decide) (Nat.le_of_ble_eq_true rfl) ?_
  intro p e s m args below meth c hE hP hz ls hl
  obtain ⟨hx, hb, hr, hml, hown, hts, hlocks, hname⟩ := hE
  have hown : s.vm.findClass RX6 = some m.cls := hown
  have hK := hOK.1 _ _ _ hz
  have hl : lv_has ls 4 [(0, .ref (a 0)), (1, .int (bz p1)), (2, .int p2), (3, .int p3)] := hl
  unfold fX6_hostHas at hrun
  refine lv_iload_n hx hb dX6_hostHas_0 rfl (lv_at hl 2 rfl) ?_
  refine lv_iconst (v := (1 : Int32)) hx hb dX6_hostHas_1 (by decide) ?_
  refine lv_icmp_ne (tgt := 9) hx hb dX6_hostHas_2 (by decide) (fun c_1 => ?_) (fun c_1 => ?_)
  · have hrun := mif_n c_1 hrun
    refine lv_iload_n hx hb dX6_hostHas_9 rfl (lv_at hl 1 rfl) ?_
    refine lv_if_eq (tgt := 22) hx hb dX6_hostHas_10 (by decide) (fun c_2 => ?_) (fun c_2 => ?_)
    · have hrun := mif_n (bz_z c_2) hrun
      refine lv_bipush (v := (10 : Int32)) hx hb dX6_hostHas_22 (by decide) ?_
      cases hrun
      exact retR_i hx hb hr hlocks rfl dX6_hostHas_24
    have hrun := mif_p (bz_nz c_2) hrun
    refine lv_iload_n hx hb dX6_hostHas_13 rfl (lv_at hl 3 rfl) ?_
    refine lv_if_ne (tgt := 22) hx hb dX6_hostHas_14 (by decide) (fun c_3 => ?_) (fun c_3 => ?_)
    · have hrun := mif_n c_3 hrun
      refine lv_bipush (v := (10 : Int32)) hx hb dX6_hostHas_22 (by decide) ?_
      cases hrun
      exact retR_i hx hb hr hlocks rfl dX6_hostHas_24
    have hrun := mif_p c_3 hrun
    refine lv_bipush (v := (-20 : Int32)) hx hb dX6_hostHas_17 (by decide) ?_
    refine lv_goto (tgt := 24) hx hb dX6_hostHas_19 (by decide) ?_
    cases hrun
    exact retR_i hx hb hr hlocks rfl dX6_hostHas_24
  have hrun := mif_p c_1 hrun
  refine lv_iconst (v := (0 : Int32)) hx hb dX6_hostHas_5 (by decide) ?_
  refine lv_goto (tgt := 24) hx hb dX6_hostHas_6 (by decide) ?_
  cases hrun
  exact retR_i hx hb hr hlocks rfl dX6_hostHas_24
def rX6_guestHas : Room := { frames := 1, cells := 0, slots := 0, locals := 22 }
noncomputable def fX6_guestHas (t : Tw) (p1 : Int32) (p2 : Bool) (p3 : Int32) (p4 : Int32) : Option (Int32) :=
  if p4 = (1 : Int32) then
    some (0 : Int32)
  else
    if p2 = true then
      if p3 = (0 : Int32) then
        mob (fX6_of t p1 (1 : Int32)) fun r_5 =>
        some r_5
      else
        some (-3 : Int32)
    else
      some (-3 : Int32)
theorem kX6_guestHas {R : Room} {s : State} {args : Array Value} {own : String} {idx mc ms : Nat} {rm : Room} (hts : ∀ w ∈ lw_all, w.before args s = true) (hl : Cond.methodLink own idx yX6_guestHas ∈ lw_all) (hrc : rm.cells = mc) (hrs : rm.slots = ms) (hR : rm.frames + 1 ≤ R.frames ∧ 8 + (5 + 11) + rm.locals ≤ R.locals) : CallW R s args own RX6 idx yX6_guestHas cX6_guestHas 5 (some .int) (ws_ yX6_guestHas cX6_guestHas 5 (some .int)) rm mc ms 4 :=
  cwV 4 hts (lw_V hl q2365 qs98 q115 q2366) rfl hrc hrs (by decide +kernel) hR
set_option maxHeartbeats 4000000 in
set_option maxRecDepth 100000 in
theorem mtX6_guestHas (l : Launch) (D : va_G) (k : Nat → ClassId) (a : Nat → Nat) (Z : zZ) (hOK : zOK D zCl (zTys k) Z) (t : Tw) (p1 : Int32) (p2 : Bool) (p3 : Int32) (p4 : Int32) (r : Int32) (hrun : fX6_guestHas t p1 p2 p3 p4 = some r) :
    CtR l yX6_guestHas cX6_guestHas 5 (some .int) rX6_guestHas Z D zCl (cT k a t) [.ref (a 0), .int p1, .int (bz p2), .int p3, .int p4] (some (.int r)) := by
  refine CtR.of (by decide) (Nat.le_of_ble_eq_true rfl) ?_
  intro p e s m args below meth c hE hP hz ls hl
  obtain ⟨hx, hb, hr, hml, hown, hts, hlocks, hname⟩ := hE
  have hown : s.vm.findClass RX6 = some m.cls := hown
  have hK := hOK.1 _ _ _ hz
  have hl : lv_has ls 5 [(0, .ref (a 0)), (1, .int p1), (2, .int (bz p2)), (3, .int p3), (4, .int p4)] := hl
  unfold fX6_guestHas at hrun
  refine lv_iload hx hb dX6_guestHas_0 (lv_at hl 4 rfl) ?_
  refine lv_iconst (v := (1 : Int32)) hx hb dX6_guestHas_2 (by decide) ?_
  refine lv_icmp_ne (tgt := 8) hx hb dX6_guestHas_3 (by decide) (fun c_1 => ?_) (fun c_1 => ?_)
  · have hrun := mif_n c_1 hrun
    refine lv_iload_n hx hb dX6_guestHas_8 rfl (lv_at hl 2 rfl) ?_
    refine lv_if_eq (tgt := 25) hx hb dX6_guestHas_9 (by decide) (fun c_2 => ?_) (fun c_2 => ?_)
    · have hrun := mif_n (bz_z c_2) hrun
      refine lv_bipush (v := (-3 : Int32)) hx hb dX6_guestHas_25 (by decide) ?_
      cases hrun
      exact retR_i hx hb hr hlocks rfl dX6_guestHas_27
    have hrun := mif_p (bz_nz c_2) hrun
    refine lv_iload_n hx hb dX6_guestHas_12 rfl (lv_at hl 3 rfl) ?_
    refine lv_if_ne (tgt := 25) hx hb dX6_guestHas_13 (by decide) (fun c_3 => ?_) (fun c_3 => ?_)
    · have hrun := mif_n c_3 hrun
      refine lv_bipush (v := (-3 : Int32)) hx hb dX6_guestHas_25 (by decide) ?_
      cases hrun
      exact retR_i hx hb hr hlocks rfl dX6_guestHas_27
    have hrun := mif_p c_3 hrun
    refine lv_aload_n hx hb dX6_guestHas_16 rfl (lv_at hl 0 rfl) ?_
    refine lv_iload_n hx hb dX6_guestHas_17 rfl (lv_at hl 1 rfl) ?_
    refine lv_iconst (v := (1 : Int32)) hx hb dX6_guestHas_18 (by decide) ?_
    obtain ⟨r_5, hc_4, hrun⟩ := mob_s rfl hrun
    refine cRV (As := [.int p1, .int (1 : Int32)]) (ci := 0) ⟨hx, hb, hml, hown, hts⟩ hOK hz va_S.rf hP (mtX6_of l D k a Z hOK _ _ _ _ hc_4) (kX6_of hts q2136 rfl rfl ⟨Nat.le_of_ble_eq_true rfl, Nat.le_of_ble_eq_true rfl⟩) 0 rfl rfl rfl hl.1 rfl (lv_room (Nat.le_of_ble_eq_true rfl)) ⟨Nat.le_of_ble_eq_true rfl, Nat.le_of_ble_eq_true rfl⟩ dX6_guestHas_19 ?_
    refine lv_goto (tgt := 27) hx hb dX6_guestHas_22 (by decide) ?_
    cases hrun
    exact retR_i hx hb hr hlocks rfl dX6_guestHas_27
  have hrun := mif_p c_1 hrun
  refine lv_iconst (v := (0 : Int32)) hx hb dX6_guestHas_6 (by decide) ?_
  cases hrun
  exact retR_i hx hb hr hlocks rfl dX6_guestHas_7
