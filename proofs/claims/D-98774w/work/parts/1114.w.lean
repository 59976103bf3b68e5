/-! walks: X6_go, X6_by, X6_sum, X6_guestLine, X6_sees, X6_watchers -/
def rX6_go : Room := { frames := 2, cells := 0, slots := 0, locals := 44 }
noncomputable def fX6_go (t : Tw) (p1 : Int32) (p2 : Int32) : Option (Int32 × Tw) :=
  mob (fX6_isGuest t p1) fun r_2 =>
  mjn (fun (y_5 : Bool) =>
  mlt (tw_s_thrown t (bz y_5)) fun t_7 =>
  if (tw_thrown t_7) ≤ (0 : Int32) then
    mo2 (fX6_sets t_7 (((24 : Int32) + ((5 : Int32) * p1)) + (0 : Int32)) p2) fun r_11 t_10 =>
    some (r_11, t_10)
  else
    some ((0 : Int32), t_7)) fun K_6 =>
  if r_2 = true then
    mob (fX6_isRoom p2) fun r_13 =>
    if r_13 = true then
      K_6 false
    else
      K_6 true
  else
    K_6 true
theorem kX6_go {R : Room} {s : State} {args : Array Value} {own : String} {idx mc ms : Nat} {rm : Room} (hts : ∀ w ∈ lw_all, w.before args s = true) (hl : Cond.methodLink own idx yX6_go ∈ lw_all) (hrc : rm.cells = mc) (hrs : rm.slots = ms) (hR : rm.frames + 1 ≤ R.frames ∧ 8 + (3 + 11) + rm.locals ≤ R.locals) : CallW R s args own RX6 idx yX6_go cX6_go 3 (some .int) (ws_ yX6_go cX6_go 3 (some .int)) rm mc ms 2 :=
  cwV 2 hts (lw_V hl q2206 q2207 q115 q2208) rfl hrc hrs (by decide +kernel) hR
set_option maxHeartbeats 4000000 in
set_option maxRecDepth 100000 in
theorem mtX6_go (l : Launch) (D : va_G) (k : Nat → ClassId) (a : Nat → Nat) (Z : zZ) (hOK : zOK D zCl (zTys k) Z) (t : Tw) (p1 : Int32) (p2 : Int32) (r : Int32) (tt : Tw) (hrun : fX6_go t p1 p2 = some (r, tt)) :
    CtW l yX6_go cX6_go 3 (some .int) rX6_go Z D zCl (cT k a t) [.ref (a 0), .int p1, .int p2] (fun r' w' => r' = (some (.int r)) ∧ w' = cT k a tt) 0 0 := by
  refine CtW.of (by decide) (Nat.le_of_ble_eq_true rfl) ?_
  intro p e s m args below meth c A hE hA hP hD hS hz ls hl
  obtain ⟨hx, hb, hr, hml, hown, hts, hlocks, hname⟩ := hE
  have hown : s.vm.findClass RX6 = some m.cls := hown
  have hK := hOK.1 _ _ _ hz
  have hl : lv_has ls 3 [(0, .ref (a 0)), (1, .int p1), (2, .int p2)] := hl
  unfold fX6_go at hrun
  refine lv_aload_n hx hb dX6_go_0 rfl (lv_at hl 0 rfl) ?_
  refine lv_aload_n hx hb dX6_go_1 rfl (lv_at hl 0 rfl) ?_
  refine lv_iload_n hx hb dX6_go_2 rfl (lv_at hl 1 rfl) ?_
  obtain ⟨r_2, hc_1, hrun⟩ := mob_s rfl hrun
  refine cRV (As := [.int p1]) (ci := 0) ⟨hx, hb, hml, hown, hts⟩ hOK hz hS hP (mtX6_isGuest l D k a Z hOK _ _ _ hc_1) (kX6_isGuest hts q2132 rfl rfl ⟨Nat.le_of_ble_eq_true rfl, Nat.le_of_ble_eq_true rfl⟩) 0 rfl rfl rfl hl.1 rfl (lv_room (Nat.le_of_ble_eq_true rfl)) ⟨Nat.le_of_ble_eq_true rfl, Nat.le_of_ble_eq_true rfl⟩ dX6_go_3 ?_
  obtain ⟨K_6, hK_6, hrun⟩ := mjn_s hrun
  have hj_4 : ∀ (y_5 : Bool), ∀ (H : Heap) (locs : List Loc), va_P D zCl (cT k a t) H → va_D A (cT k a t) → va_S A s.heap H locs → ∀ ls : Array Slot, lv_has ls 3 [(0, .ref (a 0)), (1, .int p1), (2, .int p2)] → K_6 y_5 = some (r, tt) → W p l e rX6_go s m args below meth c H locs 0 0 (MQ below (QWr (fun r' w' => r' = (some (.int r)) ∧ w' = cT k a tt) D zCl A) args s 0 0 A) (F0 m 21 ls [.int (bz y_5), .ref (a 0)]) := by
    intro y_5 H locs hP hD hS ls hl hrun
    rw [hK_6] at hrun
    refine va_put (ci := 0) (v := .int (bz y_5)) (ty := tyX6 0) (C := RX6) (T := TX6) (N := 22) hx hb hts in_X6 tyX6 tyX6_ok nmX6 hown hK hP hD hS 0 rfl rfl 0 (by decide) (hts _ q1902) (fun _ h9 => h9) rfl (tyX6_ok 0 (by decide)) rfl rfl (Nat.le_of_ble_eq_true rfl) dX6_go_21 (fun H locs hP hD hS => ?_)
    have hP : va_P D zCl (cT k a (tw_s_thrown t (bz y_5))) H := hP
    have hD : va_D A (cT k a (tw_s_thrown t (bz y_5))) := hD
    obtain ⟨t_7, et_7⟩ : ∃ z : Tw, z = (tw_s_thrown t (bz y_5)) := ⟨_, rfl⟩
    rw [← et_7] at hP hD
    have hrun := mlt_s hrun t_7 et_7
    refine lv_aload_n hx hb dX6_go_24 rfl (lv_at hl 0 rfl) ?_
    refine va_get (ci := 0) (v := .int (tw_thrown t_7)) (C := RX6) (T := TX6) (N := 22) hx hb hts in_X6 hown hK hP 0 rfl rfl 0 (by decide) (hts _ q1902) (fun _ h9 => h9) rfl dX6_go_25 ?_
    refine lv_if_le (tgt := 35) hx hb dX6_go_28 (by decide) (fun c_8 => ?_) (fun c_8 => ?_)
    · have hrun := mif_p c_8 hrun
      refine lv_aload_n hx hb dX6_go_35 rfl (lv_at hl 0 rfl) ?_
      refine lv_bipush (v := (24 : Int32)) hx hb dX6_go_36 (by decide) ?_
      refine lv_iconst (v := (5 : Int32)) hx hb dX6_go_38 (by decide) ?_
      refine lv_iload_n hx hb dX6_go_39 rfl (lv_at hl 1 rfl) ?_
      refine lv_imul hx hb dX6_go_40 ?_
      refine lv_iadd hx hb dX6_go_41 ?_
      refine lv_iconst (v := (0 : Int32)) hx hb dX6_go_42 (by decide) ?_
      refine lv_iadd hx hb dX6_go_43 ?_
      refine lv_iload_n hx hb dX6_go_44 rfl (lv_at hl 2 rfl) ?_
      obtain ⟨r_11, t_10, hc_9, hrun⟩ := mo2_s rfl hrun
      refine cWV00 (As := [.int (((24 : Int32) + ((5 : Int32) * p1)) + (0 : Int32)), .int p2]) (ci := 0) ⟨hx, hb, hml, hown, hts⟩ hOK hz hS hA hP hD (mtX6_sets l D k a Z hOK _ _ _ _ _ hc_9) (kX6_sets hts q2209 rfl rfl ⟨Nat.le_of_ble_eq_true rfl, Nat.le_of_ble_eq_true rfl⟩) 0 rfl rfl rfl hl.1 rfl (lv_room (Nat.le_of_ble_eq_true rfl)) ⟨Nat.le_of_ble_eq_true rfl, Nat.le_of_ble_eq_true rfl⟩ dX6_go_45 (fun r_ w_ H locs hq hP hD hS => ?_)
      obtain ⟨rfl, rfl⟩ := hq
      cases hrun
      exact retW_i hx hb hr hlocks hP hD hS ⟨rfl, rfl⟩ dX6_go_48
    have hrun := mif_n c_8 hrun
    refine lv_iconst (v := (0 : Int32)) hx hb dX6_go_31 (by decide) ?_
    refine lv_goto (tgt := 48) hx hb dX6_go_32 (by decide) ?_
    cases hrun
    exact retW_i hx hb hr hlocks hP hD hS ⟨rfl, rfl⟩ dX6_go_48
  refine lv_if_eq (tgt := 16) hx hb dX6_go_6 (by decide) (fun c_3 => ?_) (fun c_3 => ?_)
  · have hrun := mif_n (bz_z c_3) hrun
    refine lv_iconst (v := (1 : Int32)) hx hb dX6_go_16 (by decide) ?_
    refine lv_goto (tgt := 21) hx hb dX6_go_17 (by decide) ?_
    exact hj_4 true _ _ hP hD hS ls (lv_sub hl [0, 1, 2] rfl) hrun
  have hrun := mif_p (bz_nz c_3) hrun
  refine lv_iload_n hx hb dX6_go_9 rfl (lv_at hl 2 rfl) ?_
  obtain ⟨r_13, hc_12, hrun⟩ := mob_s rfl hrun
  refine cRS (ws := []) (As := [.int p2]) ⟨hx, hb, hml, hown, hts⟩ hOK hz hS zP0 (mtX6_isRoom l D Z hOK _ _ hc_12) (kX6_isRoom hts q2182 rfl rfl ⟨Nat.le_of_ble_eq_true rfl, Nat.le_of_ble_eq_true rfl⟩) rfl hl.1 rfl (lv_room (Nat.le_of_ble_eq_true rfl)) ⟨Nat.le_of_ble_eq_true rfl, Nat.le_of_ble_eq_true rfl⟩ dX6_go_10 ?_
  refine lv_if_ne (tgt := 20) hx hb dX6_go_13 (by decide) (fun c_14 => ?_) (fun c_14 => ?_)
  · have hrun := mif_p (bz_nz c_14) hrun
    refine lv_iconst (v := (0 : Int32)) hx hb dX6_go_20 (by decide) ?_
    exact hj_4 false _ _ hP hD hS ls (lv_sub hl [0, 1, 2] rfl) hrun
  have hrun := mif_n (bz_z c_14) hrun
  refine lv_iconst (v := (1 : Int32)) hx hb dX6_go_16 (by decide) ?_
  refine lv_goto (tgt := 21) hx hb dX6_go_17 (by decide) ?_
  exact hj_4 true _ _ hP hD hS ls (lv_sub hl [0, 1, 2] rfl) hrun
def rX6_by : Room := { frames := 3, cells := 0, slots := 0, locals := 67 }
noncomputable def fX6_by (t : Tw) (p1 : Int32) (p2 : Int32) (p3 : Int32) : Option (Int32) :=
  mck p1 8 <|
  mob (fX6_isOf p2 p3) fun r_3 =>
  if r_3 = true then
    some (2000000000 : Int32)
  else
    mob (fX6_of t ((tw_here t) (Int32.toNatClampNeg p1)) (3 : Int32)) fun r_6 =>
    mjn (fun (y_9 : Bool) =>
    mob (fX6_seesFrom t p3 y_9 ((tw_m t) 4)) fun r_12 =>
    if r_12 = true then
      some (2000000000 : Int32)
    else
      mck (((256 : Int32) * (p1 + (1 : Int32))) + (p2 ||| ((1 : Int32) <<< (p3 &&& (31 : Int32))))) 2304 <|
      if ((tw_fewest t) (Int32.toNatClampNeg (((256 : Int32) * (p1 + (1 : Int32))) + (p2 ||| ((1 : Int32) <<< (p3 &&& (31 : Int32))))))) = (2000000000 : Int32) then
        some (2000000000 : Int32)
      else
        mck (((256 : Int32) * (p1 + (1 : Int32))) + (p2 ||| ((1 : Int32) <<< (p3 &&& (31 : Int32))))) 2304 <|
        mob (fX6_of t ((tw_here t) (Int32.toNatClampNeg p1)) (0 : Int32)) fun r_18 =>
        if r_18 = p3 then
          some (((tw_fewest t) (Int32.toNatClampNeg (((256 : Int32) * (p1 + (1 : Int32))) + (p2 ||| ((1 : Int32) <<< (p3 &&& (31 : Int32))))))) + (0 : Int32))
        else
          some (((tw_fewest t) (Int32.toNatClampNeg (((256 : Int32) * (p1 + (1 : Int32))) + (p2 ||| ((1 : Int32) <<< (p3 &&& (31 : Int32))))))) + (1 : Int32))) fun K_10 =>
    if r_6 = (1 : Int32) then
      K_10 true
    else
      K_10 false
theorem kX6_by {R : Room} {s : State} {args : Array Value} {own : String} {idx mc ms : Nat} {rm : Room} (hts : ∀ w ∈ lw_all, w.before args s = true) (hl : Cond.methodLink own idx yX6_by ∈ lw_all) (hrc : rm.cells = mc) (hrs : rm.slots = ms) (hR : rm.frames + 1 ≤ R.frames ∧ 8 + (5 + 11) + rm.locals ≤ R.locals) : CallW R s args own RX6 idx yX6_by cX6_by 5 (some .int) (ws_ yX6_by cX6_by 5 (some .int)) rm mc ms 3 :=
  cwV 3 hts (lw_V hl q2353 qs96 q115 q2354) rfl hrc hrs (by decide +kernel) hR
set_option maxHeartbeats 4000000 in
set_option maxRecDepth 100000 in
theorem mtX6_by (l : Launch) (D : va_G) (k : Nat → ClassId) (a : Nat → Nat) (Z : zZ) (hOK : zOK D zCl (zTys k) Z) (t : Tw) (p1 : Int32) (p2 : Int32) (p3 : Int32) (r : Int32) (hrun : fX6_by t p1 p2 p3 = some r) :
    CtR l yX6_by cX6_by 5 (some .int) rX6_by Z D zCl (cT k a t) [.ref (a 0), .int p1, .int p2, .int p3] (some (.int r)) := by
  refine CtR.of (by decide) (Nat.le_of_ble_eq_true rfl) ?_
  intro p e s m args below meth c hE hP hz ls hl
  obtain ⟨hx, hb, hr, hml, hown, hts, hlocks, hname⟩ := hE
  have hown : s.vm.findClass RX6 = some m.cls := hown
  have hK := hOK.1 _ _ _ hz
  have hl : lv_has ls 5 [(0, .ref (a 0)), (1, .int p1), (2, .int p2), (3, .int p3)] := hl
  unfold fX6_by at hrun
  refine lv_aload_n hx hb dX6_by_0 rfl (lv_at hl 0 rfl) ?_
  refine va_get (ci := 0) (v := .ref (a 7)) (C := RX6) (T := TX6) (N := 22) hx hb hts in_X6 hown hK hP 0 rfl rfl 18 (by decide) (hts _ q1920) (fun _ h9 => h9) rfl dX6_by_1 ?_
  refine lv_iload_n hx hb dX6_by_4 rfl (lv_at hl 1 rfl) ?_
  obtain ⟨hb_1, hrun⟩ := mck_s rfl hrun
  refine va_iald hx hb hK hP 7 0 rfl rfl hb_1 dX6_by_5 ?_
  refine lv_istore (lv' := [(4, .int ((tw_here t) (Int32.toNatClampNeg p1))), (0, .ref (a 0)), (1, .int p1), (2, .int p2), (3, .int p3)]) hx hb dX6_by_6 hl (by decide) rfl (fun ls hl => ?_)
  refine lv_iload_n hx hb dX6_by_8 rfl (lv_at hl 3 rfl) ?_
  refine lv_iload_n hx hb dX6_by_9 rfl (lv_at hl 4 rfl) ?_
  obtain ⟨r_3, hc_2, hrun⟩ := mob_s rfl hrun
  refine cRS (ws := []) (As := [.int p2, .int p3]) ⟨hx, hb, hml, hown, hts⟩ hOK hz va_S.rf zP0 (mtX6_isOf l D Z hOK _ _ _ hc_2) (kX6_isOf hts q2175 rfl rfl ⟨Nat.le_of_ble_eq_true rfl, Nat.le_of_ble_eq_true rfl⟩) rfl hl.1 rfl (lv_room (Nat.le_of_ble_eq_true rfl)) ⟨Nat.le_of_ble_eq_true rfl, Nat.le_of_ble_eq_true rfl⟩ dX6_by_10 ?_
  refine lv_if_ne (tgt := 70) hx hb dX6_by_13 (by decide) (fun c_4 => ?_) (fun c_4 => ?_)
  · have hrun := mif_p (bz_nz c_4) hrun
    refine lv_ldcw (v := (2000000000 : Int32)) hx hb hown (hts _ q2350) dX6_by_70 ?_
    cases hrun
    exact retR_i hx hb hr hlocks rfl dX6_by_73
  have hrun := mif_n (bz_z c_4) hrun
  refine lv_aload_n hx hb dX6_by_16 rfl (lv_at hl 1 rfl) ?_
  refine lv_iload_n hx hb dX6_by_17 rfl (lv_at hl 4 rfl) ?_
  refine lv_aload_n hx hb dX6_by_18 rfl (lv_at hl 1 rfl) ?_
  refine lv_iload hx hb dX6_by_19 (lv_at hl 0 rfl) ?_
  refine lv_iconst (v := (3 : Int32)) hx hb dX6_by_21 (by decide) ?_
  obtain ⟨r_6, hc_5, hrun⟩ := mob_s rfl hrun
  refine cRV (As := [.int ((tw_here t) (Int32.toNatClampNeg p1)), .int (3 : Int32)]) (ci := 0) ⟨hx, hb, hml, hown, hts⟩ hOK hz va_S.rf hP (mtX6_of l D k a Z hOK _ _ _ _ hc_5) (kX6_of hts q2136 rfl rfl ⟨Nat.le_of_ble_eq_true rfl, Nat.le_of_ble_eq_true rfl⟩) 0 rfl rfl rfl hl.1 rfl (lv_room (Nat.le_of_ble_eq_true rfl)) ⟨Nat.le_of_ble_eq_true rfl, Nat.le_of_ble_eq_true rfl⟩ dX6_by_22 ?_
  refine lv_iconst (v := (1 : Int32)) hx hb dX6_by_25 (by decide) ?_
  obtain ⟨K_10, hK_10, hrun⟩ := mjn_s hrun
  have hj_8 : ∀ (y_9 : Bool), ∀ ls : Array Slot, lv_has ls 5 [(0, .ref (a 0)), (1, .int p1), (2, .int p2), (3, .int p3), (4, .int ((tw_here t) (Int32.toNatClampNeg p1)))] → K_10 y_9 = some r → W p l e rX6_by s m args below meth c s.heap [] 0 0 (MQ below (QRr (some (.int r))) args s 0 0 (fun _ => False)) (F0 m 34 ls [.int (bz y_9), .int p3, .ref (a 0)]) := by
    intro y_9 ls hl hrun
    rw [hK_10] at hrun
    refine lv_aload_n hx hb dX6_by_34 rfl (lv_at hl 0 rfl) ?_
    refine va_get (ci := 0) (v := .ref (a 1)) (C := RX6) (T := TX6) (N := 22) hx hb hts in_X6 hown hK hP 0 rfl rfl 1 (by decide) (hts _ q1903) (fun _ h9 => h9) rfl dX6_by_35 ?_
    refine lv_iconst (v := (4 : Int32)) hx hb dX6_by_38 (by decide) ?_
    refine va_ialdk (k := 4) hx hb hK hP 1 0 rfl rfl rfl (show ¬ _ from by decide) dX6_by_39 ?_
    obtain ⟨r_12, hc_11, hrun⟩ := mob_s rfl hrun
    refine cRV (As := [.int p3, .int (bz y_9), .int ((tw_m t) 4)]) (ci := 0) ⟨hx, hb, hml, hown, hts⟩ hOK hz va_S.rf hP (mtX6_seesFrom l D k a Z hOK _ _ _ _ _ hc_11) (kX6_seesFrom hts q2167 rfl rfl ⟨Nat.le_of_ble_eq_true rfl, Nat.le_of_ble_eq_true rfl⟩) 0 rfl rfl rfl hl.1 rfl (lv_room (Nat.le_of_ble_eq_true rfl)) ⟨Nat.le_of_ble_eq_true rfl, Nat.le_of_ble_eq_true rfl⟩ dX6_by_40 ?_
    refine lv_if_ne (tgt := 70) hx hb dX6_by_43 (by decide) (fun c_13 => ?_) (fun c_13 => ?_)
    · have hrun := mif_p (bz_nz c_13) hrun
      refine lv_ldcw (v := (2000000000 : Int32)) hx hb hown (hts _ q2350) dX6_by_70 ?_
      cases hrun
      exact retR_i hx hb hr hlocks rfl dX6_by_73
    have hrun := mif_n (bz_z c_13) hrun
    refine lv_aload_n hx hb dX6_by_46 rfl (lv_at hl 0 rfl) ?_
    refine va_get (ci := 0) (v := .ref (a 8)) (C := RX6) (T := TX6) (N := 22) hx hb hts in_X6 hown hK hP 0 rfl rfl 20 (by decide) (hts _ q1922) (fun _ h9 => h9) rfl dX6_by_47 ?_
    refine lv_sipush (v := (256 : Int32)) hx hb dX6_by_50 (by decide) ?_
    refine lv_iload_n hx hb dX6_by_53 rfl (lv_at hl 1 rfl) ?_
    refine lv_iconst (v := (1 : Int32)) hx hb dX6_by_54 (by decide) ?_
    refine lv_iadd hx hb dX6_by_55 ?_
    refine lv_imul hx hb dX6_by_56 ?_
    refine lv_iload_n hx hb dX6_by_57 rfl (lv_at hl 2 rfl) ?_
    refine lv_iconst (v := (1 : Int32)) hx hb dX6_by_58 (by decide) ?_
    refine lv_iload_n hx hb dX6_by_59 rfl (lv_at hl 3 rfl) ?_
    refine lv_ishl hx hb dX6_by_60 ?_
    refine lv_ior hx hb dX6_by_61 ?_
    refine lv_iadd hx hb dX6_by_62 ?_
    obtain ⟨hb_14, hrun⟩ := mck_s rfl hrun
    refine va_iald hx hb hK hP 8 0 rfl rfl hb_14 dX6_by_63 ?_
    refine lv_ldcw (v := (2000000000 : Int32)) hx hb hown (hts _ q2350) dX6_by_64 ?_
    refine lv_icmp_ne (tgt := 74) hx hb dX6_by_67 (by decide) (fun c_15 => ?_) (fun c_15 => ?_)
    · have hrun := mif_n c_15 hrun
      refine lv_aload_n hx hb dX6_by_74 rfl (lv_at hl 0 rfl) ?_
      refine va_get (ci := 0) (v := .ref (a 8)) (C := RX6) (T := TX6) (N := 22) hx hb hts in_X6 hown hK hP 0 rfl rfl 20 (by decide) (hts _ q1922) (fun _ h9 => h9) rfl dX6_by_75 ?_
      refine lv_sipush (v := (256 : Int32)) hx hb dX6_by_78 (by decide) ?_
      refine lv_iload_n hx hb dX6_by_81 rfl (lv_at hl 1 rfl) ?_
      refine lv_iconst (v := (1 : Int32)) hx hb dX6_by_82 (by decide) ?_
      refine lv_iadd hx hb dX6_by_83 ?_
      refine lv_imul hx hb dX6_by_84 ?_
      refine lv_iload_n hx hb dX6_by_85 rfl (lv_at hl 2 rfl) ?_
      refine lv_iconst (v := (1 : Int32)) hx hb dX6_by_86 (by decide) ?_
      refine lv_iload_n hx hb dX6_by_87 rfl (lv_at hl 3 rfl) ?_
      refine lv_ishl hx hb dX6_by_88 ?_
      refine lv_ior hx hb dX6_by_89 ?_
      refine lv_iadd hx hb dX6_by_90 ?_
      obtain ⟨hb_16, hrun⟩ := mck_s rfl hrun
      refine va_iald hx hb hK hP 8 0 rfl rfl hb_16 dX6_by_91 ?_
      refine lv_aload_n hx hb dX6_by_92 rfl (lv_at hl 0 rfl) ?_
      refine lv_iload hx hb dX6_by_93 (lv_at hl 4 rfl) ?_
      refine lv_iconst (v := (0 : Int32)) hx hb dX6_by_95 (by decide) ?_
      obtain ⟨r_18, hc_17, hrun⟩ := mob_s rfl hrun
      refine cRV (As := [.int ((tw_here t) (Int32.toNatClampNeg p1)), .int (0 : Int32)]) (ci := 0) ⟨hx, hb, hml, hown, hts⟩ hOK hz va_S.rf hP (mtX6_of l D k a Z hOK _ _ _ _ hc_17) (kX6_of hts q2136 rfl rfl ⟨Nat.le_of_ble_eq_true rfl, Nat.le_of_ble_eq_true rfl⟩) 0 rfl rfl rfl hl.1 rfl (lv_room (Nat.le_of_ble_eq_true rfl)) ⟨Nat.le_of_ble_eq_true rfl, Nat.le_of_ble_eq_true rfl⟩ dX6_by_96 ?_
      refine lv_iload_n hx hb dX6_by_99 rfl (lv_at hl 3 rfl) ?_
      refine lv_icmp_ne (tgt := 107) hx hb dX6_by_100 (by decide) (fun c_19 => ?_) (fun c_19 => ?_)
      · have hrun := mif_n c_19 hrun
        refine lv_iconst (v := (1 : Int32)) hx hb dX6_by_107 (by decide) ?_
        refine lv_iadd hx hb dX6_by_108 ?_
        cases hrun
        exact retR_i hx hb hr hlocks rfl dX6_by_109
      have hrun := mif_p c_19 hrun
      refine lv_iconst (v := (0 : Int32)) hx hb dX6_by_103 (by decide) ?_
      refine lv_goto (tgt := 108) hx hb dX6_by_104 (by decide) ?_
      refine lv_iadd hx hb dX6_by_108 ?_
      cases hrun
      exact retR_i hx hb hr hlocks rfl dX6_by_109
    have hrun := mif_p c_15 hrun
    refine lv_ldcw (v := (2000000000 : Int32)) hx hb hown (hts _ q2350) dX6_by_70 ?_
    cases hrun
    exact retR_i hx hb hr hlocks rfl dX6_by_73
  refine lv_icmp_ne (tgt := 33) hx hb dX6_by_26 (by decide) (fun c_7 => ?_) (fun c_7 => ?_)
  · have hrun := mif_n c_7 hrun
    refine lv_iconst (v := (0 : Int32)) hx hb dX6_by_33 (by decide) ?_
    exact hj_8 false ls (lv_sub hl [1, 2, 3, 4, 0] rfl) hrun
  have hrun := mif_p c_7 hrun
  refine lv_iconst (v := (1 : Int32)) hx hb dX6_by_29 (by decide) ?_
  refine lv_goto (tgt := 34) hx hb dX6_by_30 (by decide) ?_
  exact hj_8 true ls (lv_sub hl [1, 2, 3, 4, 0] rfl) hrun
def rX6_sum : Room := { frames := 6, cells := 0, slots := 0, locals := 129 }
noncomputable def fX6_sum_L5 : Nat → Int32 → Tw → Option (Int32 × Tw)
  | 0, _, _ => none
  | n + 1, x1_5, t_6 =>
    if (tw_fault t_6) = (-1 : Int32) then
      mo2 (fX6_isSign t_6 (43 : Int32)) fun r_10 t_9 =>
      if r_10 = true then
        mlt (tw_s_at_ t_9 ((tw_at_ t_9) + (1 : Int32))) fun t_12 =>
        mo2 (fX6_part t_12) fun r_15 t_14 =>
        fX6_sum_L5 n (x1_5 + r_15) t_14
      else
        some (x1_5, t_9)
    else
      some (x1_5, t_6)
noncomputable def fX6_sum (t : Tw) : Option (Int32 × Tw) :=
  mo2 (fX6_part t) fun r_3 t_2 =>
  fX6_sum_L5 mFU r_3 t_2
theorem kX6_sum {R : Room} {s : State} {args : Array Value} {own : String} {idx mc ms : Nat} {rm : Room} (hts : ∀ w ∈ lw_all, w.before args s = true) (hl : Cond.methodLink own idx yX6_sum ∈ lw_all) (hrc : rm.cells = mc) (hrs : rm.slots = ms) (hR : rm.frames + 1 ≤ R.frames ∧ 8 + (2 + 11) + rm.locals ≤ R.locals) : CallW R s args own RX6 idx yX6_sum cX6_sum 2 (some .int) (ws_ yX6_sum cX6_sum 2 (some .int)) rm mc ms 0 :=
  cwV 0 hts (lw_V hl q2068 qs64 q115 q2069) rfl hrc hrs (by decide +kernel) hR
set_option maxHeartbeats 4000000 in
set_option maxRecDepth 100000 in
theorem mtX6_sum (l : Launch) (D : va_G) (k : Nat → ClassId) (a : Nat → Nat) (Z : zZ) (hOK : zOK D zCl (zTys k) Z) {adK adV : Nat → Nat} (hStr : zStr Z adK adV) (t : Tw) (r : Int32) (tt : Tw) (hrun : fX6_sum t = some (r, tt)) :
    CtW l yX6_sum cX6_sum 2 (some .int) rX6_sum Z D zCl (cT k a t) [.ref (a 0)] (fun r' w' => r' = (some (.int r)) ∧ w' = cT k a tt) 0 0 := by
  refine CtW.of (by decide) (Nat.le_of_ble_eq_true rfl) ?_
  intro p e s m args below meth c A hE hA hP hD hS hz ls hl
  obtain ⟨hx, hb, hr, hml, hown, hts, hlocks, hname⟩ := hE
  have hown : s.vm.findClass RX6 = some m.cls := hown
  have hK := hOK.1 _ _ _ hz
  have hl : lv_has ls 2 [(0, .ref (a 0))] := hl
  unfold fX6_sum at hrun
  refine lv_aload_n hx hb dX6_sum_0 rfl (lv_at hl 0 rfl) ?_
  obtain ⟨r_3, t_2, hc_1, hrun⟩ := mo2_s rfl hrun
  refine cWV00 (As := []) (ci := 0) ⟨hx, hb, hml, hown, hts⟩ hOK hz hS hA hP hD (mtX6_part l D k a Z hOK hStr _ _ _ hc_1) (kX6_part hts q2070 rfl rfl ⟨Nat.le_of_ble_eq_true rfl, Nat.le_of_ble_eq_true rfl⟩) 0 rfl rfl rfl hl.1 rfl (lv_room (Nat.le_of_ble_eq_true rfl)) ⟨Nat.le_of_ble_eq_true rfl, Nat.le_of_ble_eq_true rfl⟩ dX6_sum_1 (fun r_ w_ H locs hq hP hD hS => ?_)
  obtain ⟨rfl, rfl⟩ := hq
  refine lv_istore_n (lv' := [(1, .int r_3), (0, .ref (a 0))]) hx hb dX6_sum_4 rfl hl (by decide) rfl (fun ls hl => ?_)
  have hL_4 : ∀ n : Nat, ∀ (x1_5 : Int32) (t_6 : Tw), ∀ (H : Heap) (locs : List Loc), va_P D zCl (cT k a t_6) H → va_D A (cT k a t_6) → va_S A s.heap H locs → ∀ ls : Array Slot, lv_has ls 2 [(0, .ref (a 0)), (1, .int x1_5)] → fX6_sum_L5 n x1_5 t_6 = some (r, tt) → W p l e rX6_sum s m args below meth c H locs 0 0 (MQ below (QWr (fun r' w' => r' = (some (.int r)) ∧ w' = cT k a tt) D zCl A) args s 0 0 A) (F0 m 5 ls []) := by
    intro n
    induction n with
    | zero =>
      intro x1_5 t_6 H locs hP hD hS ls hl hrun
      exact nomatch hrun
    | succ n ih =>
      intro x1_5 t_6 H locs hP hD hS ls hl hrun
      rw [fX6_sum_L5.eq_2] at hrun
      refine lv_aload_n hx hb dX6_sum_5 rfl (lv_at hl 0 rfl) ?_
      refine va_get (ci := 0) (v := .int (tw_fault t_6)) (C := RX6) (T := TX6) (N := 22) hx hb hts in_X6 hown hK hP 0 rfl rfl 12 (by decide) (hts _ q1914) (fun _ h9 => h9) rfl dX6_sum_6 ?_
      refine lv_iconst (v := (-1 : Int32)) hx hb dX6_sum_9 (by decide) ?_
      refine lv_icmp_ne (tgt := 42) hx hb dX6_sum_10 (by decide) (fun c_7 => ?_) (fun c_7 => ?_)
      · have hrun := mif_n c_7 hrun
        refine lv_iload_n hx hb dX6_sum_42 rfl (lv_at hl 1 rfl) ?_
        cases hrun
        exact retW_i hx hb hr hlocks hP hD hS ⟨rfl, rfl⟩ dX6_sum_43
      have hrun := mif_p c_7 hrun
      refine lv_aload_n hx hb dX6_sum_13 rfl (lv_at hl 0 rfl) ?_
      refine lv_bipush (v := (43 : Int32)) hx hb dX6_sum_14 (by decide) ?_
      obtain ⟨r_10, t_9, hc_8, hrun⟩ := mo2_s rfl hrun
      refine cWV00 (As := [.int (43 : Int32)]) (ci := 0) ⟨hx, hb, hml, hown, hts⟩ hOK hz hS hA hP hD (mtX6_isSign l D k a Z hOK _ _ _ _ hc_8) (kX6_isSign hts q2056 rfl rfl ⟨Nat.le_of_ble_eq_true rfl, Nat.le_of_ble_eq_true rfl⟩) 0 rfl rfl rfl hl.1 rfl (lv_room (Nat.le_of_ble_eq_true rfl)) ⟨Nat.le_of_ble_eq_true rfl, Nat.le_of_ble_eq_true rfl⟩ dX6_sum_16 (fun r_ w_ H locs hq hP hD hS => ?_)
      obtain ⟨rfl, rfl⟩ := hq
      refine lv_if_eq (tgt := 42) hx hb dX6_sum_19 (by decide) (fun c_11 => ?_) (fun c_11 => ?_)
      · have hrun := mif_n (bz_z c_11) hrun
        refine lv_iload_n hx hb dX6_sum_42 rfl (lv_at hl 1 rfl) ?_
        cases hrun
        exact retW_i hx hb hr hlocks hP hD hS ⟨rfl, rfl⟩ dX6_sum_43
      have hrun := mif_p (bz_nz c_11) hrun
      refine lv_aload_n hx hb dX6_sum_22 rfl (lv_at hl 0 rfl) ?_
      refine lv_dup hx hb dX6_sum_23 rfl ?_
      refine va_get (ci := 0) (v := .int (tw_at_ t_9)) (C := RX6) (T := TX6) (N := 22) hx hb hts in_X6 hown hK hP 0 rfl rfl 11 (by decide) (hts _ q1913) (fun _ h9 => h9) rfl dX6_sum_24 ?_
      refine lv_iconst (v := (1 : Int32)) hx hb dX6_sum_27 (by decide) ?_
      refine lv_iadd hx hb dX6_sum_28 ?_
      refine va_put (ci := 0) (v := .int ((tw_at_ t_9) + (1 : Int32))) (ty := tyX6 11) (C := RX6) (T := TX6) (N := 22) hx hb hts in_X6 tyX6 tyX6_ok nmX6 hown hK hP hD hS 0 rfl rfl 11 (by decide) (hts _ q1913) (fun _ h9 => h9) rfl (tyX6_ok 11 (by decide)) rfl rfl (Nat.le_of_ble_eq_true rfl) dX6_sum_29 (fun H locs hP hD hS => ?_)
      have hP : va_P D zCl (cT k a (tw_s_at_ t_9 ((tw_at_ t_9) + (1 : Int32)))) H := hP
      have hD : va_D A (cT k a (tw_s_at_ t_9 ((tw_at_ t_9) + (1 : Int32)))) := hD
      obtain ⟨t_12, et_12⟩ : ∃ z : Tw, z = (tw_s_at_ t_9 ((tw_at_ t_9) + (1 : Int32))) := ⟨_, rfl⟩
      rw [← et_12] at hP hD
      have hrun := mlt_s hrun t_12 et_12
      refine lv_iload_n hx hb dX6_sum_32 rfl (lv_at hl 1 rfl) ?_
      refine lv_aload_n hx hb dX6_sum_33 rfl (lv_at hl 0 rfl) ?_
      obtain ⟨r_15, t_14, hc_13, hrun⟩ := mo2_s rfl hrun
      refine cWV00 (As := []) (ci := 0) ⟨hx, hb, hml, hown, hts⟩ hOK hz hS hA hP hD (mtX6_part l D k a Z hOK hStr _ _ _ hc_13) (kX6_part hts q2070 rfl rfl ⟨Nat.le_of_ble_eq_true rfl, Nat.le_of_ble_eq_true rfl⟩) 0 rfl rfl rfl hl.1 rfl (lv_room (Nat.le_of_ble_eq_true rfl)) ⟨Nat.le_of_ble_eq_true rfl, Nat.le_of_ble_eq_true rfl⟩ dX6_sum_34 (fun r_ w_ H locs hq hP hD hS => ?_)
      obtain ⟨rfl, rfl⟩ := hq
      refine lv_iadd hx hb dX6_sum_37 ?_
      refine lv_istore_n (lv' := [(1, .int (x1_5 + r_15)), (0, .ref (a 0))]) hx hb dX6_sum_38 rfl hl (by decide) rfl (fun ls hl => ?_)
      refine lv_goto (tgt := 5) hx hb dX6_sum_39 (by decide) ?_
      exact ih (x1_5 + r_15) t_14 _ _ hP hD hS ls (lv_sub hl [1, 0] rfl) hrun
  exact hL_4 mFU r_3 t_2 _ _ hP hD hS ls (lv_sub hl [1, 0] rfl) hrun
def rX6_guestLine : Room := { frames := 6, cells := 0, slots := 0, locals := 131 }
noncomputable def fX6_guestLine (t : Tw) (p1 : Int32) : Option (Tw) :=
  mjn (fun (t_3 : Tw) =>
  mo2 (fX6_after t_3 9 (0 : Int32) (10 : Int32)) fun r_7 t_6 =>
  mo2 (fX6_after t_6 10 (0 : Int32) (7 : Int32)) fun r_10 t_9 =>
  mjn (fun (y_13 : Int32) (t_14 : Tw) =>
  mjn (fun (y_18 : Bool) (t_19 : Tw) =>
  if (tw_fault t_19) = (-1 : Int32) then
    mob (fX6_put t_19 ((tw_m t_19) 3) (0 : Int32) r_10) fun t_23 =>
    mob (fX6_put t_23 ((tw_m t_19) 3) (1 : Int32) r_7) fun t_25 =>
    mob (fX6_put t_25 ((tw_m t_19) 3) (2 : Int32) y_13) fun t_27 =>
    mjn (fun (y_30 : Bool) =>
    mob (fX6_put t_27 ((tw_m t_19) 3) (3 : Int32) (bz y_30)) fun t_33 =>
    mob (fX6_put t_33 ((tw_m t_19) 3) (4 : Int32) (1 : Int32)) fun t_35 =>
    mlt (tw_s_m t_35 (upd (tw_m t_35) 3 (((tw_m t_35) 3) + (1 : Int32)))) fun t_36 =>
    some t_36) fun K_31 =>
    if y_18 = true then
      K_31 true
    else
      K_31 false
  else
    some t_19) fun K_20 =>
  if (tw_fault t_14) = (-1 : Int32) then
    mo2 (fX6_has t_14 12) fun r_39 t_38 =>
    if r_39 = true then
      K_20 true t_38
    else
      K_20 false t_38
  else
    K_20 false t_14) fun K_15 =>
  if (tw_fault t_9) = (-1 : Int32) then
    mo2 (fX6_has t_9 11) fun r_43 t_42 =>
    if r_43 = true then
      mo2 (fX6_figures t_42 (0 : Int32) (99 : Int32)) fun r_47 t_46 =>
      K_15 r_47 t_46
    else
      K_15 (0 : Int32) t_42
  else
    K_15 (0 : Int32) t_9) fun K_4 =>
  if ((tw_m t) 3) = (8 : Int32) then
    mob (fX6_wrong t p1) fun t_49 =>
    K_4 t_49
  else
    K_4 t
theorem kX6_guestLine {R : Room} {s : State} {args : Array Value} {own : String} {idx mc ms : Nat} {rm : Room} (hts : ∀ w ∈ lw_all, w.before args s = true) (hl : Cond.methodLink own idx yX6_guestLine ∈ lw_all) (hrc : rm.cells = mc) (hrs : rm.slots = ms) (hR : rm.frames + 1 ≤ R.frames ∧ 8 + (7 + 11) + rm.locals ≤ R.locals) : CallW R s args own RX6 idx yX6_guestLine cX6_guestLine 7 none (ws_ yX6_guestLine cX6_guestLine 7 none) rm mc ms 1 :=
  cwV 1 hts (lw_V hl q2089 qs67 q115 q2090) rfl hrc hrs (by decide +kernel) hR
set_option maxHeartbeats 4000000 in
set_option maxRecDepth 100000 in
theorem mtX6_guestLine (l : Launch) (D : va_G) (k : Nat → ClassId) (a : Nat → Nat) (Z : zZ) (hOK : zOK D zCl (zTys k) Z) {adK adV : Nat → Nat} (hStr : zStr Z adK adV) (t : Tw) (p1 : Int32) (tt : Tw) (hrun : fX6_guestLine t p1 = some tt) :
    CtW l yX6_guestLine cX6_guestLine 7 none rX6_guestLine Z D zCl (cT k a t) [.ref (a 0), .int p1] (fun r' w' => r' = none ∧ w' = cT k a tt) 0 0 := by
  refine CtW.of (by decide) (Nat.le_of_ble_eq_true rfl) ?_
  intro p e s m args below meth c A hE hA hP hD hS hz ls hl
  obtain ⟨hx, hb, hr, hml, hown, hts, hlocks, hname⟩ := hE
  have hown : s.vm.findClass RX6 = some m.cls := hown
  have hK := hOK.1 _ _ _ hz
  have hl : lv_has ls 7 [(0, .ref (a 0)), (1, .int p1)] := hl
  unfold fX6_guestLine at hrun
  refine lv_aload_n hx hb dX6_guestLine_0 rfl (lv_at hl 0 rfl) ?_
  refine va_get (ci := 0) (v := .ref (a 1)) (C := RX6) (T := TX6) (N := 22) hx hb hts in_X6 hown hK hP 0 rfl rfl 1 (by decide) (hts _ q1903) (fun _ h9 => h9) rfl dX6_guestLine_1 ?_
  refine lv_iconst (v := (3 : Int32)) hx hb dX6_guestLine_4 (by decide) ?_
  refine va_ialdk (k := 3) hx hb hK hP 1 0 rfl rfl rfl (show ¬ _ from by decide) dX6_guestLine_5 ?_
  refine lv_bipush (v := (8 : Int32)) hx hb dX6_guestLine_6 (by decide) ?_
  obtain ⟨K_4, hK_4, hrun⟩ := mjn_s hrun
  have hj_2 : ∀ (t_3 : Tw), ∀ (H : Heap) (locs : List Loc), va_P D zCl (cT k a t_3) H → va_D A (cT k a t_3) → va_S A s.heap H locs → ∀ ls : Array Slot, lv_has ls 7 [(0, .ref (a 0))] → K_4 t_3 = some tt → W p l e rX6_guestLine s m args below meth c H locs 0 0 (MQ below (QWr (fun r' w' => r' = none ∧ w' = cT k a tt) D zCl A) args s 0 0 A) (F0 m 16 ls []) := by
    intro t_3 H locs hP hD hS ls hl hrun
    rw [hK_4] at hrun
    refine lv_aload_n hx hb dX6_guestLine_16 rfl (lv_at hl 0 rfl) ?_
    refine va_ldcS hx hb hown (sr27 hStr hz) dX6_guestLine_17 ?_
    refine lv_iconst (v := (0 : Int32)) hx hb dX6_guestLine_19 (by decide) ?_
    refine lv_bipush (v := (10 : Int32)) hx hb dX6_guestLine_20 (by decide) ?_
    obtain ⟨r_7, t_6, hc_5, hrun⟩ := mo2_s rfl hrun
    refine cWV00 (As := [.ref (adK 9), .int (0 : Int32), .int (10 : Int32)]) (ci := 0) ⟨hx, hb, hml, hown, hts⟩ hOK hz hS hA hP hD (mtX6_after l D k a Z hOK hStr _ _ _ _ _ _ hc_5) (kX6_after hts q2091 rfl rfl ⟨Nat.le_of_ble_eq_true rfl, Nat.le_of_ble_eq_true rfl⟩) 0 rfl rfl rfl hl.1 rfl (lv_room (Nat.le_of_ble_eq_true rfl)) ⟨Nat.le_of_ble_eq_true rfl, Nat.le_of_ble_eq_true rfl⟩ dX6_guestLine_22 (fun r_ w_ H locs hq hP hD hS => ?_)
    obtain ⟨rfl, rfl⟩ := hq
    refine lv_istore_n (lv' := [(2, .int r_7), (0, .ref (a 0))]) hx hb dX6_guestLine_25 rfl hl (by decide) rfl (fun ls hl => ?_)
    refine lv_aload_n hx hb dX6_guestLine_26 rfl (lv_at hl 1 rfl) ?_
    refine va_ldcS hx hb hown (sr34 hStr hz) dX6_guestLine_27 ?_
    refine lv_iconst (v := (0 : Int32)) hx hb dX6_guestLine_29 (by decide) ?_
    refine lv_bipush (v := (7 : Int32)) hx hb dX6_guestLine_30 (by decide) ?_
    obtain ⟨r_10, t_9, hc_8, hrun⟩ := mo2_s rfl hrun
    refine cWV00 (As := [.ref (adK 10), .int (0 : Int32), .int (7 : Int32)]) (ci := 0) ⟨hx, hb, hml, hown, hts⟩ hOK hz hS hA hP hD (mtX6_after l D k a Z hOK hStr _ _ _ _ _ _ hc_8) (kX6_after hts q2091 rfl rfl ⟨Nat.le_of_ble_eq_true rfl, Nat.le_of_ble_eq_true rfl⟩) 0 rfl rfl rfl hl.1 rfl (lv_room (Nat.le_of_ble_eq_true rfl)) ⟨Nat.le_of_ble_eq_true rfl, Nat.le_of_ble_eq_true rfl⟩ dX6_guestLine_32 (fun r_ w_ H locs hq hP hD hS => ?_)
    obtain ⟨rfl, rfl⟩ := hq
    refine lv_istore_n (lv' := [(3, .int r_10), (2, .int r_7), (0, .ref (a 0))]) hx hb dX6_guestLine_35 rfl hl (by decide) rfl (fun ls hl => ?_)
    refine lv_aload_n hx hb dX6_guestLine_36 rfl (lv_at hl 2 rfl) ?_
    refine va_get (ci := 0) (v := .int (tw_fault t_9)) (C := RX6) (T := TX6) (N := 22) hx hb hts in_X6 hown hK hP 0 rfl rfl 12 (by decide) (hts _ q1914) (fun _ h9 => h9) rfl dX6_guestLine_37 ?_
    refine lv_iconst (v := (-1 : Int32)) hx hb dX6_guestLine_40 (by decide) ?_
    obtain ⟨K_15, hK_15, hrun⟩ := mjn_s hrun
    have hj_12 : ∀ (y_13 : Int32) (t_14 : Tw), ∀ (H : Heap) (locs : List Loc), va_P D zCl (cT k a t_14) H → va_D A (cT k a t_14) → va_S A s.heap H locs → ∀ ls : Array Slot, lv_has ls 7 [(0, .ref (a 0)), (2, .int r_7), (3, .int r_10)] → K_15 y_13 t_14 = some tt → W p l e rX6_guestLine s m args below meth c H locs 0 0 (MQ below (QWr (fun r' w' => r' = none ∧ w' = cT k a tt) D zCl A) args s 0 0 A) (F0 m 64 ls [.int y_13]) := by
      intro y_13 t_14 H locs hP hD hS ls hl hrun
      rw [hK_15] at hrun
      refine lv_istore (lv' := [(4, .int y_13), (0, .ref (a 0)), (2, .int r_7), (3, .int r_10)]) hx hb dX6_guestLine_64 hl (by decide) rfl (fun ls hl => ?_)
      refine lv_aload_n hx hb dX6_guestLine_66 rfl (lv_at hl 1 rfl) ?_
      refine va_get (ci := 0) (v := .int (tw_fault t_14)) (C := RX6) (T := TX6) (N := 22) hx hb hts in_X6 hown hK hP 0 rfl rfl 12 (by decide) (hts _ q1914) (fun _ h9 => h9) rfl dX6_guestLine_67 ?_
      refine lv_iconst (v := (-1 : Int32)) hx hb dX6_guestLine_70 (by decide) ?_
      obtain ⟨K_20, hK_20, hrun⟩ := mjn_s hrun
      have hj_17 : ∀ (y_18 : Bool) (t_19 : Tw), ∀ (H : Heap) (locs : List Loc), va_P D zCl (cT k a t_19) H → va_D A (cT k a t_19) → va_S A s.heap H locs → ∀ ls : Array Slot, lv_has ls 7 [(0, .ref (a 0)), (2, .int r_7), (3, .int r_10), (4, .int y_13)] → K_20 y_18 t_19 = some tt → W p l e rX6_guestLine s m args below meth c H locs 0 0 (MQ below (QWr (fun r' w' => r' = none ∧ w' = cT k a tt) D zCl A) args s 0 0 A) (F0 m 88 ls [.int (bz y_18)]) := by
        intro y_18 t_19 H locs hP hD hS ls hl hrun
        rw [hK_20] at hrun
        refine lv_istore (lv' := [(5, .int (bz y_18)), (0, .ref (a 0)), (2, .int r_7), (3, .int r_10), (4, .int y_13)]) hx hb dX6_guestLine_88 hl (by decide) rfl (fun ls hl => ?_)
        refine lv_aload_n hx hb dX6_guestLine_90 rfl (lv_at hl 1 rfl) ?_
        refine va_get (ci := 0) (v := .int (tw_fault t_19)) (C := RX6) (T := TX6) (N := 22) hx hb hts in_X6 hown hK hP 0 rfl rfl 12 (by decide) (hts _ q1914) (fun _ h9 => h9) rfl dX6_guestLine_91 ?_
        refine lv_iconst (v := (-1 : Int32)) hx hb dX6_guestLine_94 (by decide) ?_
        refine lv_icmp_eq (tgt := 99) hx hb dX6_guestLine_95 (by decide) (fun c_21 => ?_) (fun c_21 => ?_)
        · have hrun := mif_p c_21 hrun
          refine lv_aload_n hx hb dX6_guestLine_99 rfl (lv_at hl 1 rfl) ?_
          refine va_get (ci := 0) (v := .ref (a 1)) (C := RX6) (T := TX6) (N := 22) hx hb hts in_X6 hown hK hP 0 rfl rfl 1 (by decide) (hts _ q1903) (fun _ h9 => h9) rfl dX6_guestLine_100 ?_
          refine lv_iconst (v := (3 : Int32)) hx hb dX6_guestLine_103 (by decide) ?_
          refine va_ialdk (k := 3) hx hb hK hP 1 0 rfl rfl rfl (show ¬ _ from by decide) dX6_guestLine_104 ?_
          refine lv_istore (lv' := [(6, .int ((tw_m t_19) 3)), (5, .int (bz y_18)), (0, .ref (a 0)), (2, .int r_7), (3, .int r_10), (4, .int y_13)]) hx hb dX6_guestLine_105 hl (by decide) rfl (fun ls hl => ?_)
          refine lv_aload_n hx hb dX6_guestLine_107 rfl (lv_at hl 2 rfl) ?_
          refine lv_iload hx hb dX6_guestLine_108 (lv_at hl 0 rfl) ?_
          refine lv_iconst (v := (0 : Int32)) hx hb dX6_guestLine_110 (by decide) ?_
          refine lv_iload_n hx hb dX6_guestLine_111 rfl (lv_at hl 4 rfl) ?_
          obtain ⟨t_23, hc_22, hrun⟩ := mob_s rfl hrun
          refine cWV00 (As := [.int ((tw_m t_19) 3), .int (0 : Int32), .int r_10]) (ci := 0) ⟨hx, hb, hml, hown, hts⟩ hOK hz hS hA hP hD (mtX6_put l D k a Z hOK _ _ _ _ _ hc_22) (kX6_put hts q2096 rfl rfl ⟨Nat.le_of_ble_eq_true rfl, Nat.le_of_ble_eq_true rfl⟩) 0 rfl rfl rfl hl.1 rfl (lv_room (Nat.le_of_ble_eq_true rfl)) ⟨Nat.le_of_ble_eq_true rfl, Nat.le_of_ble_eq_true rfl⟩ dX6_guestLine_112 (fun r_ w_ H locs hq hP hD hS => ?_)
          obtain ⟨rfl, rfl⟩ := hq
          refine lv_aload_n hx hb dX6_guestLine_115 rfl (lv_at hl 2 rfl) ?_
          refine lv_iload hx hb dX6_guestLine_116 (lv_at hl 0 rfl) ?_
          refine lv_iconst (v := (1 : Int32)) hx hb dX6_guestLine_118 (by decide) ?_
          refine lv_iload_n hx hb dX6_guestLine_119 rfl (lv_at hl 3 rfl) ?_
          obtain ⟨t_25, hc_24, hrun⟩ := mob_s rfl hrun
          refine cWV00 (As := [.int ((tw_m t_19) 3), .int (1 : Int32), .int r_7]) (ci := 0) ⟨hx, hb, hml, hown, hts⟩ hOK hz hS hA hP hD (mtX6_put l D k a Z hOK _ _ _ _ _ hc_24) (kX6_put hts q2096 rfl rfl ⟨Nat.le_of_ble_eq_true rfl, Nat.le_of_ble_eq_true rfl⟩) 0 rfl rfl rfl hl.1 rfl (lv_room (Nat.le_of_ble_eq_true rfl)) ⟨Nat.le_of_ble_eq_true rfl, Nat.le_of_ble_eq_true rfl⟩ dX6_guestLine_120 (fun r_ w_ H locs hq hP hD hS => ?_)
          obtain ⟨rfl, rfl⟩ := hq
          refine lv_aload_n hx hb dX6_guestLine_123 rfl (lv_at hl 2 rfl) ?_
          refine lv_iload hx hb dX6_guestLine_124 (lv_at hl 0 rfl) ?_
          refine lv_iconst (v := (2 : Int32)) hx hb dX6_guestLine_126 (by decide) ?_
          refine lv_iload hx hb dX6_guestLine_127 (lv_at hl 5 rfl) ?_
          obtain ⟨t_27, hc_26, hrun⟩ := mob_s rfl hrun
          refine cWV00 (As := [.int ((tw_m t_19) 3), .int (2 : Int32), .int y_13]) (ci := 0) ⟨hx, hb, hml, hown, hts⟩ hOK hz hS hA hP hD (mtX6_put l D k a Z hOK _ _ _ _ _ hc_26) (kX6_put hts q2096 rfl rfl ⟨Nat.le_of_ble_eq_true rfl, Nat.le_of_ble_eq_true rfl⟩) 0 rfl rfl rfl hl.1 rfl (lv_room (Nat.le_of_ble_eq_true rfl)) ⟨Nat.le_of_ble_eq_true rfl, Nat.le_of_ble_eq_true rfl⟩ dX6_guestLine_129 (fun r_ w_ H locs hq hP hD hS => ?_)
          obtain ⟨rfl, rfl⟩ := hq
          refine lv_aload_n hx hb dX6_guestLine_132 rfl (lv_at hl 2 rfl) ?_
          refine lv_iload hx hb dX6_guestLine_133 (lv_at hl 0 rfl) ?_
          refine lv_iconst (v := (3 : Int32)) hx hb dX6_guestLine_135 (by decide) ?_
          refine lv_iload hx hb dX6_guestLine_136 (lv_at hl 1 rfl) ?_
          obtain ⟨K_31, hK_31, hrun⟩ := mjn_s hrun
          have hj_29 : ∀ (y_30 : Bool), ∀ (H : Heap) (locs : List Loc), va_P D zCl (cT k a t_27) H → va_D A (cT k a t_27) → va_S A s.heap H locs → ∀ ls : Array Slot, lv_has ls 7 [(0, .ref (a 0)), (6, .int ((tw_m t_19) 3))] → K_31 y_30 = some tt → W p l e rX6_guestLine s m args below meth c H locs 0 0 (MQ below (QWr (fun r' w' => r' = none ∧ w' = cT k a tt) D zCl A) args s 0 0 A) (F0 m 146 ls [.int (bz y_30), .int (3 : Int32), .int ((tw_m t_19) 3), .ref (a 0)]) := by
            intro y_30 H locs hP hD hS ls hl hrun
            rw [hK_31] at hrun
            obtain ⟨t_33, hc_32, hrun⟩ := mob_s rfl hrun
            refine cWV00 (As := [.int ((tw_m t_19) 3), .int (3 : Int32), .int (bz y_30)]) (ci := 0) ⟨hx, hb, hml, hown, hts⟩ hOK hz hS hA hP hD (mtX6_put l D k a Z hOK _ _ _ _ _ hc_32) (kX6_put hts q2096 rfl rfl ⟨Nat.le_of_ble_eq_true rfl, Nat.le_of_ble_eq_true rfl⟩) 0 rfl rfl rfl hl.1 rfl (lv_room (Nat.le_of_ble_eq_true rfl)) ⟨Nat.le_of_ble_eq_true rfl, Nat.le_of_ble_eq_true rfl⟩ dX6_guestLine_146 (fun r_ w_ H locs hq hP hD hS => ?_)
            obtain ⟨rfl, rfl⟩ := hq
            refine lv_aload_n hx hb dX6_guestLine_149 rfl (lv_at hl 0 rfl) ?_
            refine lv_iload hx hb dX6_guestLine_150 (lv_at hl 1 rfl) ?_
            refine lv_iconst (v := (4 : Int32)) hx hb dX6_guestLine_152 (by decide) ?_
            refine lv_iconst (v := (1 : Int32)) hx hb dX6_guestLine_153 (by decide) ?_
            obtain ⟨t_35, hc_34, hrun⟩ := mob_s rfl hrun
            refine cWV00 (As := [.int ((tw_m t_19) 3), .int (4 : Int32), .int (1 : Int32)]) (ci := 0) ⟨hx, hb, hml, hown, hts⟩ hOK hz hS hA hP hD (mtX6_put l D k a Z hOK _ _ _ _ _ hc_34) (kX6_put hts q2096 rfl rfl ⟨Nat.le_of_ble_eq_true rfl, Nat.le_of_ble_eq_true rfl⟩) 0 rfl rfl rfl hl.1 rfl (lv_room (Nat.le_of_ble_eq_true rfl)) ⟨Nat.le_of_ble_eq_true rfl, Nat.le_of_ble_eq_true rfl⟩ dX6_guestLine_154 (fun r_ w_ H locs hq hP hD hS => ?_)
            obtain ⟨rfl, rfl⟩ := hq
            refine lv_aload_n hx hb dX6_guestLine_157 rfl (lv_at hl 0 rfl) ?_
            refine va_get (ci := 0) (v := .ref (a 1)) (C := RX6) (T := TX6) (N := 22) hx hb hts in_X6 hown hK hP 0 rfl rfl 1 (by decide) (hts _ q1903) (fun _ h9 => h9) rfl dX6_guestLine_158 ?_
            refine lv_iconst (v := (3 : Int32)) hx hb dX6_guestLine_161 (by decide) ?_
            refine lv_dup2_11 hx hb dX6_guestLine_162 rfl rfl ?_
            refine va_ialdk (k := 3) hx hb hK hP 1 0 rfl rfl rfl (show ¬ _ from by decide) dX6_guestLine_163 ?_
            refine lv_iconst (v := (1 : Int32)) hx hb dX6_guestLine_164 (by decide) ?_
            refine lv_iadd hx hb dX6_guestLine_165 ?_
            refine va_iastk (k := 3) hx hb hK hP hD hS 1 0 rfl rfl rfl (show ¬ _ from by decide) dX6_guestLine_166 (fun H locs hP hD hS => ?_)
            have hP : va_P D zCl (cT k a (tw_s_m t_35 (upd (tw_m t_35) 3 (((tw_m t_35) 3) + (1 : Int32))))) H := hP
            have hD : va_D A (cT k a (tw_s_m t_35 (upd (tw_m t_35) 3 (((tw_m t_35) 3) + (1 : Int32))))) := hD
            obtain ⟨t_36, et_36⟩ : ∃ z : Tw, z = (tw_s_m t_35 (upd (tw_m t_35) 3 (((tw_m t_35) 3) + (1 : Int32)))) := ⟨_, rfl⟩
            rw [← et_36] at hP hD
            have hrun := mlt_s hrun t_36 et_36
            cases hrun
            exact retW_v hx hb hr hlocks hP hD hS ⟨rfl, rfl⟩ dX6_guestLine_167
          refine lv_if_eq (tgt := 145) hx hb dX6_guestLine_138 (by decide) (fun c_28 => ?_) (fun c_28 => ?_)
          · have hrun := mif_n (bz_z c_28) hrun
            refine lv_iconst (v := (0 : Int32)) hx hb dX6_guestLine_145 (by decide) ?_
            exact hj_29 false _ _ hP hD hS ls (lv_sub hl [2, 0] rfl) hrun
          have hrun := mif_p (bz_nz c_28) hrun
          refine lv_iconst (v := (1 : Int32)) hx hb dX6_guestLine_141 (by decide) ?_
          refine lv_goto (tgt := 146) hx hb dX6_guestLine_142 (by decide) ?_
          exact hj_29 true _ _ hP hD hS ls (lv_sub hl [2, 0] rfl) hrun
        have hrun := mif_n c_21 hrun
        cases hrun
        exact retW_v hx hb hr hlocks hP hD hS ⟨rfl, rfl⟩ dX6_guestLine_98
      refine lv_icmp_ne (tgt := 87) hx hb dX6_guestLine_71 (by decide) (fun c_16 => ?_) (fun c_16 => ?_)
      · have hrun := mif_n c_16 hrun
        refine lv_iconst (v := (0 : Int32)) hx hb dX6_guestLine_87 (by decide) ?_
        exact hj_17 false t_14 _ _ hP hD hS ls (lv_sub hl [1, 2, 3, 0] rfl) hrun
      have hrun := mif_p c_16 hrun
      refine lv_aload_n hx hb dX6_guestLine_74 rfl (lv_at hl 1 rfl) ?_
      refine va_ldcS hx hb hown (sr23 hStr hz) dX6_guestLine_75 ?_
      obtain ⟨r_39, t_38, hc_37, hrun⟩ := mo2_s rfl hrun
      refine cWV00 (As := [.ref (adK 12)]) (ci := 0) ⟨hx, hb, hml, hown, hts⟩ hOK hz hS hA hP hD (mtX6_has l D k a Z hOK hStr _ _ _ _ hc_37) (kX6_has hts q2017 rfl rfl ⟨Nat.le_of_ble_eq_true rfl, Nat.le_of_ble_eq_true rfl⟩) 0 rfl rfl rfl hl.1 rfl (lv_room (Nat.le_of_ble_eq_true rfl)) ⟨Nat.le_of_ble_eq_true rfl, Nat.le_of_ble_eq_true rfl⟩ dX6_guestLine_77 (fun r_ w_ H locs hq hP hD hS => ?_)
      obtain ⟨rfl, rfl⟩ := hq
      refine lv_if_eq (tgt := 87) hx hb dX6_guestLine_80 (by decide) (fun c_40 => ?_) (fun c_40 => ?_)
      · have hrun := mif_n (bz_z c_40) hrun
        refine lv_iconst (v := (0 : Int32)) hx hb dX6_guestLine_87 (by decide) ?_
        exact hj_17 false t_38 _ _ hP hD hS ls (lv_sub hl [1, 2, 3, 0] rfl) hrun
      have hrun := mif_p (bz_nz c_40) hrun
      refine lv_iconst (v := (1 : Int32)) hx hb dX6_guestLine_83 (by decide) ?_
      refine lv_goto (tgt := 88) hx hb dX6_guestLine_84 (by decide) ?_
      exact hj_17 true t_38 _ _ hP hD hS ls (lv_sub hl [1, 2, 3, 0] rfl) hrun
    refine lv_icmp_ne (tgt := 63) hx hb dX6_guestLine_41 (by decide) (fun c_11 => ?_) (fun c_11 => ?_)
    · have hrun := mif_n c_11 hrun
      refine lv_iconst (v := (0 : Int32)) hx hb dX6_guestLine_63 (by decide) ?_
      exact hj_12 (0 : Int32) t_9 _ _ hP hD hS ls (lv_sub hl [2, 1, 0] rfl) hrun
    have hrun := mif_p c_11 hrun
    refine lv_aload_n hx hb dX6_guestLine_44 rfl (lv_at hl 2 rfl) ?_
    refine va_ldcS hx hb hown (sr19 hStr hz) dX6_guestLine_45 ?_
    obtain ⟨r_43, t_42, hc_41, hrun⟩ := mo2_s rfl hrun
    refine cWV00 (As := [.ref (adK 11)]) (ci := 0) ⟨hx, hb, hml, hown, hts⟩ hOK hz hS hA hP hD (mtX6_has l D k a Z hOK hStr _ _ _ _ hc_41) (kX6_has hts q2017 rfl rfl ⟨Nat.le_of_ble_eq_true rfl, Nat.le_of_ble_eq_true rfl⟩) 0 rfl rfl rfl hl.1 rfl (lv_room (Nat.le_of_ble_eq_true rfl)) ⟨Nat.le_of_ble_eq_true rfl, Nat.le_of_ble_eq_true rfl⟩ dX6_guestLine_47 (fun r_ w_ H locs hq hP hD hS => ?_)
    obtain ⟨rfl, rfl⟩ := hq
    refine lv_if_eq (tgt := 63) hx hb dX6_guestLine_50 (by decide) (fun c_44 => ?_) (fun c_44 => ?_)
    · have hrun := mif_n (bz_z c_44) hrun
      refine lv_iconst (v := (0 : Int32)) hx hb dX6_guestLine_63 (by decide) ?_
      exact hj_12 (0 : Int32) t_42 _ _ hP hD hS ls (lv_sub hl [2, 1, 0] rfl) hrun
    have hrun := mif_p (bz_nz c_44) hrun
    refine lv_aload_n hx hb dX6_guestLine_53 rfl (lv_at hl 2 rfl) ?_
    refine lv_iconst (v := (0 : Int32)) hx hb dX6_guestLine_54 (by decide) ?_
    refine lv_bipush (v := (99 : Int32)) hx hb dX6_guestLine_55 (by decide) ?_
    obtain ⟨r_47, t_46, hc_45, hrun⟩ := mo2_s rfl hrun
    refine cWV00 (As := [.int (0 : Int32), .int (99 : Int32)]) (ci := 0) ⟨hx, hb, hml, hown, hts⟩ hOK hz hS hA hP hD (mtX6_figures l D k a Z hOK _ _ _ _ _ hc_45) (kX6_figures hts q2034 rfl rfl ⟨Nat.le_of_ble_eq_true rfl, Nat.le_of_ble_eq_true rfl⟩) 0 rfl rfl rfl hl.1 rfl (lv_room (Nat.le_of_ble_eq_true rfl)) ⟨Nat.le_of_ble_eq_true rfl, Nat.le_of_ble_eq_true rfl⟩ dX6_guestLine_57 (fun r_ w_ H locs hq hP hD hS => ?_)
    obtain ⟨rfl, rfl⟩ := hq
    refine lv_goto (tgt := 64) hx hb dX6_guestLine_60 (by decide) ?_
    exact hj_12 r_47 t_46 _ _ hP hD hS ls (lv_sub hl [2, 1, 0] rfl) hrun
  refine lv_icmp_ne (tgt := 16) hx hb dX6_guestLine_8 (by decide) (fun c_1 => ?_) (fun c_1 => ?_)
  · have hrun := mif_n c_1 hrun
    exact hj_2 t _ _ hP hD hS ls (lv_sub hl [0] rfl) hrun
  have hrun := mif_p c_1 hrun
  refine lv_aload_n hx hb dX6_guestLine_11 rfl (lv_at hl 0 rfl) ?_
  refine lv_iload_n hx hb dX6_guestLine_12 rfl (lv_at hl 1 rfl) ?_
  obtain ⟨t_49, hc_48, hrun⟩ := mob_s rfl hrun
  refine cWV00 (As := [.int p1]) (ci := 0) ⟨hx, hb, hml, hown, hts⟩ hOK hz hS hA hP hD (mtX6_wrong l D k a Z hOK _ _ _ hc_48) (kX6_wrong hts q2008 rfl rfl ⟨Nat.le_of_ble_eq_true rfl, Nat.le_of_ble_eq_true rfl⟩) 0 rfl rfl rfl hl.1 rfl (lv_room (Nat.le_of_ble_eq_true rfl)) ⟨Nat.le_of_ble_eq_true rfl, Nat.le_of_ble_eq_true rfl⟩ dX6_guestLine_13 (fun r_ w_ H locs hq hP hD hS => ?_)
  obtain ⟨rfl, rfl⟩ := hq
  exact hj_2 t_49 _ _ hP hD hS ls (lv_sub hl [0] rfl) hrun
def rX6_sees : Room := { frames := 3, cells := 0, slots := 0, locals := 67 }
noncomputable def fX6_sees (t : Tw) (p1 : Int32) (p2 : Int32) : Option (Bool) :=
  mob (fX6_of t p1 (0 : Int32)) fun r_2 =>
  mob (fX6_of t p1 (3 : Int32)) fun r_4 =>
  mjn (fun (y_7 : Bool) =>
  mob (fX6_seesFrom t r_2 y_7 p2) fun r_10 =>
  some r_10) fun K_8 =>
  if r_4 = (1 : Int32) then
    K_8 true
  else
    K_8 false
theorem kX6_sees {R : Room} {s : State} {args : Array Value} {own : String} {idx mc ms : Nat} {rm : Room} (hts : ∀ w ∈ lw_all, w.before args s = true) (hl : Cond.methodLink own idx yX6_sees ∈ lw_all) (hrc : rm.cells = mc) (hrs : rm.slots = ms) (hR : rm.frames + 1 ≤ R.frames ∧ 8 + (3 + 11) + rm.locals ≤ R.locals) : CallW R s args own RX6 idx yX6_sees cX6_sees 3 (some .boolean) (ws_ yX6_sees cX6_sees 3 (some .boolean)) rm mc ms 2 :=
  cwV 2 hts (lw_V hl q2165 qs80 q115 q2166) rfl hrc hrs (by decide +kernel) hR
set_option maxHeartbeats 4000000 in
set_option maxRecDepth 100000 in
theorem mtX6_sees (l : Launch) (D : va_G) (k : Nat → ClassId) (a : Nat → Nat) (Z : zZ) (hOK : zOK D zCl (zTys k) Z) (t : Tw) (p1 : Int32) (p2 : Int32) (r : Bool) (hrun : fX6_sees t p1 p2 = some r) :
    CtR l yX6_sees cX6_sees 3 (some .boolean) rX6_sees Z D zCl (cT k a t) [.ref (a 0), .int p1, .int p2] (some (.int (bz r))) := by
  refine CtR.of (by decide) (Nat.le_of_ble_eq_true rfl) ?_
  intro p e s m args below meth c hE hP hz ls hl
  obtain ⟨hx, hb, hr, hml, hown, hts, hlocks, hname⟩ := hE
  have hown : s.vm.findClass RX6 = some m.cls := hown
  have hK := hOK.1 _ _ _ hz
  have hl : lv_has ls 3 [(0, .ref (a 0)), (1, .int p1), (2, .int p2)] := hl
  unfold fX6_sees at hrun
  refine lv_aload_n hx hb dX6_sees_0 rfl (lv_at hl 0 rfl) ?_
  refine lv_aload_n hx hb dX6_sees_1 rfl (lv_at hl 0 rfl) ?_
  refine lv_iload_n hx hb dX6_sees_2 rfl (lv_at hl 1 rfl) ?_
  refine lv_iconst (v := (0 : Int32)) hx hb dX6_sees_3 (by decide) ?_
  obtain ⟨r_2, hc_1, hrun⟩ := mob_s rfl hrun
  refine cRV (As := [.int p1, .int (0 : Int32)]) (ci := 0) ⟨hx, hb, hml, hown, hts⟩ hOK hz va_S.rf hP (mtX6_of l D k a Z hOK _ _ _ _ hc_1) (kX6_of hts q2136 rfl rfl ⟨Nat.le_of_ble_eq_true rfl, Nat.le_of_ble_eq_true rfl⟩) 0 rfl rfl rfl hl.1 rfl (lv_room (Nat.le_of_ble_eq_true rfl)) ⟨Nat.le_of_ble_eq_true rfl, Nat.le_of_ble_eq_true rfl⟩ dX6_sees_4 ?_
  refine lv_aload_n hx hb dX6_sees_7 rfl (lv_at hl 0 rfl) ?_
  refine lv_iload_n hx hb dX6_sees_8 rfl (lv_at hl 1 rfl) ?_
  refine lv_iconst (v := (3 : Int32)) hx hb dX6_sees_9 (by decide) ?_
  obtain ⟨r_4, hc_3, hrun⟩ := mob_s rfl hrun
  refine cRV (As := [.int p1, .int (3 : Int32)]) (ci := 0) ⟨hx, hb, hml, hown, hts⟩ hOK hz va_S.rf hP (mtX6_of l D k a Z hOK _ _ _ _ hc_3) (kX6_of hts q2136 rfl rfl ⟨Nat.le_of_ble_eq_true rfl, Nat.le_of_ble_eq_true rfl⟩) 0 rfl rfl rfl hl.1 rfl (lv_room (Nat.le_of_ble_eq_true rfl)) ⟨Nat.le_of_ble_eq_true rfl, Nat.le_of_ble_eq_true rfl⟩ dX6_sees_10 ?_
  refine lv_iconst (v := (1 : Int32)) hx hb dX6_sees_13 (by decide) ?_
  obtain ⟨K_8, hK_8, hrun⟩ := mjn_s hrun
  have hj_6 : ∀ (y_7 : Bool), ∀ ls : Array Slot, lv_has ls 3 [(2, .int p2)] → K_8 y_7 = some r → W p l e rX6_sees s m args below meth c s.heap [] 0 0 (MQ below (QRr (some (.int (bz r)))) args s 0 0 (fun _ => False)) (F0 m 22 ls [.int (bz y_7), .int r_2, .ref (a 0)]) := by
    intro y_7 ls hl hrun
    rw [hK_8] at hrun
    refine lv_iload_n hx hb dX6_sees_22 rfl (lv_at hl 0 rfl) ?_
    obtain ⟨r_10, hc_9, hrun⟩ := mob_s rfl hrun
    refine cRV (As := [.int r_2, .int (bz y_7), .int p2]) (ci := 0) ⟨hx, hb, hml, hown, hts⟩ hOK hz va_S.rf hP (mtX6_seesFrom l D k a Z hOK _ _ _ _ _ hc_9) (kX6_seesFrom hts q2167 rfl rfl ⟨Nat.le_of_ble_eq_true rfl, Nat.le_of_ble_eq_true rfl⟩) 0 rfl rfl rfl hl.1 rfl (lv_room (Nat.le_of_ble_eq_true rfl)) ⟨Nat.le_of_ble_eq_true rfl, Nat.le_of_ble_eq_true rfl⟩ dX6_sees_23 ?_
    cases hrun
    exact retR_z hx hb hr hlocks rfl dX6_sees_26
  refine lv_icmp_ne (tgt := 21) hx hb dX6_sees_14 (by decide) (fun c_5 => ?_) (fun c_5 => ?_)
  · have hrun := mif_n c_5 hrun
    refine lv_iconst (v := (0 : Int32)) hx hb dX6_sees_21 (by decide) ?_
    exact hj_6 false ls (lv_sub hl [2] rfl) hrun
  have hrun := mif_p c_5 hrun
  refine lv_iconst (v := (1 : Int32)) hx hb dX6_sees_17 (by decide) ?_
  refine lv_goto (tgt := 22) hx hb dX6_sees_18 (by decide) ?_
  exact hj_6 true ls (lv_sub hl [2] rfl) hrun
def rX6_watchers : Room := { frames := 4, cells := 0, slots := 0, locals := 89 }
noncomputable def fX6_watchers_L4 (t : Tw) (p1 : Int32) : Nat → Int32 → Int32 → Option (Int32)
  | 0, _, _ => none
  | n + 1, x2_2, x3_3 =>
    if ((tw_m t) 3) ≤ x3_3 then
      some x2_2
    else
      mob (fX6_isHere t x3_3) fun r_6 =>
      if r_6 = true then
        mob (fX6_sees t x3_3 p1) fun r_9 =>
        if r_9 = true then
          fX6_watchers_L4 t p1 n (x2_2 ||| ((1 : Int32) <<< (x3_3 &&& (31 : Int32)))) (x3_3 + (1 : Int32))
        else
          fX6_watchers_L4 t p1 n (x2_2 ||| (0 : Int32)) (x3_3 + (1 : Int32))
      else
        fX6_watchers_L4 t p1 n (x2_2 ||| (0 : Int32)) (x3_3 + (1 : Int32))
noncomputable def fX6_watchers (t : Tw) (p1 : Int32) : Option (Int32) :=
  fX6_watchers_L4 t p1 mFU (0 : Int32) (0 : Int32)
theorem kX6_watchers {R : Room} {s : State} {args : Array Value} {own : String} {idx mc ms : Nat} {rm : Room} (hts : ∀ w ∈ lw_all, w.before args s = true) (hl : Cond.methodLink own idx yX6_watchers ∈ lw_all) (hrc : rm.cells = mc) (hrs : rm.slots = ms) (hR : rm.frames + 1 ≤ R.frames ∧ 8 + (4 + 11) + rm.locals ≤ R.locals) : CallW R s args own RX6 idx yX6_watchers cX6_watchers 4 (some .int) (ws_ yX6_watchers cX6_watchers 4 (some .int)) rm mc ms 1 :=
  cwV 1 hts (lw_V hl q2195 qs85 q115 q2196) rfl hrc hrs (by decide +kernel) hR
set_option maxHeartbeats 4000000 in
set_option maxRecDepth 100000 in
theorem mtX6_watchers (l : Launch) (D : va_G) (k : Nat → ClassId) (a : Nat → Nat) (Z : zZ) (hOK : zOK D zCl (zTys k) Z) (t : Tw) (p1 : Int32) (r : Int32) (hrun : fX6_watchers t p1 = some r) :
    CtR l yX6_watchers cX6_watchers 4 (some .int) rX6_watchers Z D zCl (cT k a t) [.ref (a 0), .int p1] (some (.int r)) := by
  refine CtR.of (by decide) (Nat.le_of_ble_eq_true rfl) ?_
  intro p e s m args below meth c hE hP hz ls hl
  obtain ⟨hx, hb, hr, hml, hown, hts, hlocks, hname⟩ := hE
  have hown : s.vm.findClass RX6 = some m.cls := hown
  have hK := hOK.1 _ _ _ hz
  have hl : lv_has ls 4 [(0, .ref (a 0)), (1, .int p1)] := hl
  unfold fX6_watchers at hrun
  refine lv_iconst (v := (0 : Int32)) hx hb dX6_watchers_0 (by decide) ?_
  refine lv_istore_n (lv' := [(2, .int (0 : Int32)), (0, .ref (a 0)), (1, .int p1)]) hx hb dX6_watchers_1 rfl hl (by decide) rfl (fun ls hl => ?_)
  refine lv_iconst (v := (0 : Int32)) hx hb dX6_watchers_2 (by decide) ?_
  refine lv_istore_n (lv' := [(3, .int (0 : Int32)), (2, .int (0 : Int32)), (0, .ref (a 0)), (1, .int p1)]) hx hb dX6_watchers_3 rfl hl (by decide) rfl (fun ls hl => ?_)
  have hL_1 : ∀ n : Nat, ∀ (x2_2 : Int32) (x3_3 : Int32), ∀ ls : Array Slot, lv_has ls 4 [(0, .ref (a 0)), (1, .int p1), (2, .int x2_2), (3, .int x3_3)] → fX6_watchers_L4 t p1 n x2_2 x3_3 = some r → W p l e rX6_watchers s m args below meth c s.heap [] 0 0 (MQ below (QRr (some (.int r))) args s 0 0 (fun _ => False)) (F0 m 4 ls []) := by
    intro n
    induction n with
    | zero =>
      intro x2_2 x3_3 ls hl hrun
      exact nomatch hrun
    | succ n ih =>
      intro x2_2 x3_3 ls hl hrun
      rw [fX6_watchers_L4.eq_2] at hrun
      refine lv_iload_n hx hb dX6_watchers_4 rfl (lv_at hl 3 rfl) ?_
      refine lv_aload_n hx hb dX6_watchers_5 rfl (lv_at hl 0 rfl) ?_
      refine va_get (ci := 0) (v := .ref (a 1)) (C := RX6) (T := TX6) (N := 22) hx hb hts in_X6 hown hK hP 0 rfl rfl 1 (by decide) (hts _ q1903) (fun _ h9 => h9) rfl dX6_watchers_6 ?_
      refine lv_iconst (v := (3 : Int32)) hx hb dX6_watchers_9 (by decide) ?_
      refine va_ialdk (k := 3) hx hb hK hP 1 0 rfl rfl rfl (show ¬ _ from by decide) dX6_watchers_10 ?_
      refine lv_icmp_ge (tgt := 47) hx hb dX6_watchers_11 (by decide) (fun c_4 => ?_) (fun c_4 => ?_)
      · have hrun := mif_p c_4 hrun
        refine lv_iload_n hx hb dX6_watchers_47 rfl (lv_at hl 2 rfl) ?_
        cases hrun
        exact retR_i hx hb hr hlocks rfl dX6_watchers_48
      have hrun := mif_n c_4 hrun
      refine lv_iload_n hx hb dX6_watchers_14 rfl (lv_at hl 2 rfl) ?_
      refine lv_aload_n hx hb dX6_watchers_15 rfl (lv_at hl 0 rfl) ?_
      refine lv_iload_n hx hb dX6_watchers_16 rfl (lv_at hl 3 rfl) ?_
      obtain ⟨r_6, hc_5, hrun⟩ := mob_s rfl hrun
      refine cRV (As := [.int x3_3]) (ci := 0) ⟨hx, hb, hml, hown, hts⟩ hOK hz va_S.rf hP (mtX6_isHere l D k a Z hOK _ _ _ hc_5) (kX6_isHere hts q2155 rfl rfl ⟨Nat.le_of_ble_eq_true rfl, Nat.le_of_ble_eq_true rfl⟩) 0 rfl rfl rfl hl.1 rfl (lv_room (Nat.le_of_ble_eq_true rfl)) ⟨Nat.le_of_ble_eq_true rfl, Nat.le_of_ble_eq_true rfl⟩ dX6_watchers_17 ?_
      refine lv_if_eq (tgt := 38) hx hb dX6_watchers_20 (by decide) (fun c_7 => ?_) (fun c_7 => ?_)
      · have hrun := mif_n (bz_z c_7) hrun
        refine lv_iconst (v := (0 : Int32)) hx hb dX6_watchers_38 (by decide) ?_
        refine lv_ior hx hb dX6_watchers_39 ?_
        refine lv_istore_n (lv' := [(2, .int (x2_2 ||| (0 : Int32))), (0, .ref (a 0)), (1, .int p1), (3, .int x3_3)]) hx hb dX6_watchers_40 rfl hl (by decide) rfl (fun ls hl => ?_)
        refine lv_iinc (v := (x3_3 + (1 : Int32))) (lv' := [(3, .int (x3_3 + (1 : Int32))), (2, .int (x2_2 ||| (0 : Int32))), (0, .ref (a 0)), (1, .int p1)]) hx hb dX6_watchers_41 hl (k := 3) rfl rfl (by decide) rfl (fun ls hl => ?_)
        refine lv_goto (tgt := 4) hx hb dX6_watchers_44 (by decide) ?_
        exact ih (x2_2 ||| (0 : Int32)) (x3_3 + (1 : Int32)) ls (lv_sub hl [2, 3, 1, 0] rfl) hrun
      have hrun := mif_p (bz_nz c_7) hrun
      refine lv_aload_n hx hb dX6_watchers_23 rfl (lv_at hl 0 rfl) ?_
      refine lv_iload_n hx hb dX6_watchers_24 rfl (lv_at hl 3 rfl) ?_
      refine lv_iload_n hx hb dX6_watchers_25 rfl (lv_at hl 1 rfl) ?_
      obtain ⟨r_9, hc_8, hrun⟩ := mob_s rfl hrun
      refine cRV (As := [.int x3_3, .int p1]) (ci := 0) ⟨hx, hb, hml, hown, hts⟩ hOK hz va_S.rf hP (mtX6_sees l D k a Z hOK _ _ _ _ hc_8) (kX6_sees hts q2163 rfl rfl ⟨Nat.le_of_ble_eq_true rfl, Nat.le_of_ble_eq_true rfl⟩) 0 rfl rfl rfl hl.1 rfl (lv_room (Nat.le_of_ble_eq_true rfl)) ⟨Nat.le_of_ble_eq_true rfl, Nat.le_of_ble_eq_true rfl⟩ dX6_watchers_26 ?_
      refine lv_if_eq (tgt := 38) hx hb dX6_watchers_29 (by decide) (fun c_10 => ?_) (fun c_10 => ?_)
      · have hrun := mif_n (bz_z c_10) hrun
        refine lv_iconst (v := (0 : Int32)) hx hb dX6_watchers_38 (by decide) ?_
        refine lv_ior hx hb dX6_watchers_39 ?_
        refine lv_istore_n (lv' := [(2, .int (x2_2 ||| (0 : Int32))), (0, .ref (a 0)), (1, .int p1), (3, .int x3_3)]) hx hb dX6_watchers_40 rfl hl (by decide) rfl (fun ls hl => ?_)
        refine lv_iinc (v := (x3_3 + (1 : Int32))) (lv' := [(3, .int (x3_3 + (1 : Int32))), (2, .int (x2_2 ||| (0 : Int32))), (0, .ref (a 0)), (1, .int p1)]) hx hb dX6_watchers_41 hl (k := 3) rfl rfl (by decide) rfl (fun ls hl => ?_)
        refine lv_goto (tgt := 4) hx hb dX6_watchers_44 (by decide) ?_
        exact ih (x2_2 ||| (0 : Int32)) (x3_3 + (1 : Int32)) ls (lv_sub hl [2, 3, 1, 0] rfl) hrun
      have hrun := mif_p (bz_nz c_10) hrun
      refine lv_iconst (v := (1 : Int32)) hx hb dX6_watchers_32 (by decide) ?_
      refine lv_iload_n hx hb dX6_watchers_33 rfl (lv_at hl 3 rfl) ?_
      refine lv_ishl hx hb dX6_watchers_34 ?_
      refine lv_goto (tgt := 39) hx hb dX6_watchers_35 (by decide) ?_
      refine lv_ior hx hb dX6_watchers_39 ?_
      refine lv_istore_n (lv' := [(2, .int (x2_2 ||| ((1 : Int32) <<< (x3_3 &&& (31 : Int32))))), (0, .ref (a 0)), (1, .int p1), (3, .int x3_3)]) hx hb dX6_watchers_40 rfl hl (by decide) rfl (fun ls hl => ?_)
      refine lv_iinc (v := (x3_3 + (1 : Int32))) (lv' := [(3, .int (x3_3 + (1 : Int32))), (2, .int (x2_2 ||| ((1 : Int32) <<< (x3_3 &&& (31 : Int32))))), (0, .ref (a 0)), (1, .int p1)]) hx hb dX6_watchers_41 hl (k := 3) rfl rfl (by decide) rfl (fun ls hl => ?_)
      refine lv_goto (tgt := 4) hx hb dX6_watchers_44 (by decide) ?_
      exact ih (x2_2 ||| ((1 : Int32) <<< (x3_3 &&& (31 : Int32)))) (x3_3 + (1 : Int32)) ls (lv_sub hl [2, 3, 1, 0] rfl) hrun
  exact hL_1 mFU (0 : Int32) (0 : Int32) ls (lv_sub hl [2, 3, 1, 0] rfl) hrun
