/-! walks: X2_looks, X2_likens, X1_shareOf -/
def rX2_looks : Room := { frames := 1, cells := 0, slots := 0, locals := 60 }
noncomputable def fX2_looks (su : Wd) (p1 : Int32) : Option (Wd) :=
  mlt ((wd_seen su) + (1 : Int32)) fun v_1 =>
  mlt (wd_s_seen su v_1) fun su_2 =>
  mck p1 8 <|
  mlt (wd_s_doubt su_2 (upd (wd_doubt su_2) (Int32.toNatClampNeg p1) (99 : Int32))) fun su_4 =>
  mlt (wd_s_log su_4 (va_cpy (wd_log su_4) (wd_log su_4) 0 4 236)) fun su_5 =>
  mlt (wd_s_log su_5 (upd (wd_log su_5) 0 (wd_day su_5))) fun su_6 =>
  mlt (wd_s_log su_6 (upd (wd_log su_6) 1 p1)) fun su_7 =>
  mck p1 8 <|
  mlt (wd_s_log su_7 (upd (wd_log su_7) 2 ((wd_room su_7) (Int32.toNatClampNeg p1)))) fun su_9 =>
  mlt (wd_s_log su_9 (upd (wd_log su_9) 3 (wd_bath su_9))) fun su_10 =>
  mlt (zmn (60 : Int32) ((wd_logged su_10) + (1 : Int32))) fun v_11 =>
  mlt (wd_s_logged su_10 v_11) fun su_12 =>
  some su_12
theorem kX2_looks {R : Room} {s : State} {args : Array Value} {own : String} {idx mc ms : Nat} {rm : Room} (hts : ∀ w ∈ lw_all, w.before args s = true) (hl : Cond.methodLink own idx yX2_looks ∈ lw_all) (hrc : rm.cells = mc) (hrs : rm.slots = ms) (hR : rm.frames + 1 ≤ R.frames ∧ 8 + (2 + 11) + rm.locals ≤ R.locals) : CallW R s args own RX2 idx yX2_looks cX2_looks 2 none (ws_ yX2_looks cX2_looks 2 none) rm mc ms 1 :=
  cwV 1 hts (lw_V hl q1718 q1719 q108 q1720) rfl hrc hrs (by decide +kernel) hR
set_option maxHeartbeats 4000000 in
set_option maxRecDepth 100000 in
theorem mtX2_looks (l : Launch) (D : va_G) (k : Nat → ClassId) (au : Nat → Nat) (Z : zZ) (hOK : zOK D zCl (zTys k) Z) (su : Wd) (p1 : Int32) (ou : Wd) (hrun : fX2_looks su p1 = some ou) :
    CtW l yX2_looks cX2_looks 2 none rX2_looks Z D zCl (cW k au su) [.ref (au 0), .int p1] (fun r' w' => r' = none ∧ w' = (cW k au ou)) 0 0 := by
  refine CtW.of (by decide) (Nat.le_of_ble_eq_true rfl) ?_
  intro p e s m args below meth c A hE hA hP hD hS hz ls hl
  obtain ⟨hx, hb, hr, hml, hown, hts, hlocks, hname⟩ := hE
  have hown : s.vm.findClass RX2 = some m.cls := hown
  have hK := hOK.1 _ _ _ hz
  have hN := hOK.2.1 _ _ _ hz
  have hl : lv_has ls 2 [(0, .ref (au 0)), (1, .int p1)] := hl
  unfold fX2_looks at hrun
  refine lv_aload_n hx hb dX2_looks_0 rfl (lv_at hl 0 rfl) ?_
  refine lv_dup hx hb dX2_looks_1 rfl ?_
  refine va_get (ci := 2) (v := .int (wd_seen su)) (C := RX2) (T := TX2) (N := 21) hx hb hts in_X2 hown hK hP 0 rfl rfl 9 (by decide) (hts _ q182) (fun _ h9 => h9) rfl dX2_looks_2 ?_
  refine lv_iconst (v := (1 : Int32)) hx hb dX2_looks_5 (by decide) ?_
  refine lv_iadd hx hb dX2_looks_6 ?_
  refine lv_topi (fun v_1 ev_1 => ?_)
  have hrun := mlt_s hrun v_1 ev_1
  refine va_put (ci := 2) (v := .int v_1) (ty := tyX2 9) (C := RX2) (T := TX2) (N := 21) hx hb hts in_X2 tyX2 tyX2_ok nmX2 hown hK hP hD hS 0 rfl rfl 9 (by decide) (hts _ q182) (fun _ h9 => h9) rfl (tyX2_ok 9 (by decide)) rfl rfl (Nat.le_of_ble_eq_true rfl) dX2_looks_7 (fun H locs hP hD hS => ?_)
  have hP : va_P D zCl (cW k au (wd_s_seen su v_1)) H := hP
  have hD : va_D A (cW k au (wd_s_seen su v_1)) := hD
  obtain ⟨su_2, esu_2⟩ : ∃ z : Wd, z = (wd_s_seen su v_1) := ⟨_, rfl⟩
  rw [← esu_2] at hP hD
  have hrun := mlt_s hrun su_2 esu_2
  refine lv_aload_n hx hb dX2_looks_10 rfl (lv_at hl 0 rfl) ?_
  refine va_get (ci := 2) (v := .ref (au 4)) (C := RX2) (T := TX2) (N := 21) hx hb hts in_X2 hown hK hP 0 rfl rfl 15 (by decide) (hts _ q195) (fun _ h9 => h9) rfl dX2_looks_11 ?_
  refine lv_iload_n hx hb dX2_looks_14 rfl (lv_at hl 1 rfl) ?_
  refine lv_bipush (v := (99 : Int32)) hx hb dX2_looks_15 (by decide) ?_
  obtain ⟨hb_3, hrun⟩ := mck_s rfl hrun
  refine va_iast hx hb hK hP hD hS 4 0 rfl rfl hb_3 dX2_looks_17 (fun H locs hP hD hS => ?_)
  have hP : va_P D zCl (cW k au (wd_s_doubt su_2 (upd (wd_doubt su_2) (Int32.toNatClampNeg p1) (99 : Int32)))) H := hP
  have hD : va_D A (cW k au (wd_s_doubt su_2 (upd (wd_doubt su_2) (Int32.toNatClampNeg p1) (99 : Int32)))) := hD
  obtain ⟨su_4, esu_4⟩ : ∃ z : Wd, z = (wd_s_doubt su_2 (upd (wd_doubt su_2) (Int32.toNatClampNeg p1) (99 : Int32))) := ⟨_, rfl⟩
  rw [← esu_4] at hP hD
  have hrun := mlt_s hrun su_4 esu_4
  refine lv_aload_n hx hb dX2_looks_18 rfl (lv_at hl 0 rfl) ?_
  refine va_get (ci := 2) (v := .ref (au 8)) (C := RX2) (T := TX2) (N := 21) hx hb hts in_X2 hown hK hP 0 rfl rfl 19 (by decide) (hts _ q205) (fun _ h9 => h9) rfl dX2_looks_19 ?_
  refine lv_iconst (v := (0 : Int32)) hx hb dX2_looks_22 (by decide) ?_
  refine lv_aload_n hx hb dX2_looks_23 rfl (lv_at hl 0 rfl) ?_
  refine va_get (ci := 2) (v := .ref (au 8)) (C := RX2) (T := TX2) (N := 21) hx hb hts in_X2 hown hK hP 0 rfl rfl 19 (by decide) (hts _ q205) (fun _ h9 => h9) rfl dX2_looks_24 ?_
  refine lv_iconst (v := (4 : Int32)) hx hb dX2_looks_27 (by decide) ?_
  refine lv_aload_n hx hb dX2_looks_28 rfl (lv_at hl 0 rfl) ?_
  refine va_get (ci := 2) (v := .ref (au 8)) (C := RX2) (T := TX2) (N := 21) hx hb hts in_X2 hown hK hP 0 rfl rfl 19 (by decide) (hts _ q205) (fun _ h9 => h9) rfl dX2_looks_29 ?_
  refine va_alen (v := (240 : Int32)) hx hb hK hP 8 0 rfl rfl rfl dX2_looks_32 ?_
  refine lv_iconst (v := (4 : Int32)) hx hb dX2_looks_33 (by decide) ?_
  refine lv_isub hx hb dX2_looks_34 ?_
  refine va_copyi (ty := .int) hx hb (hml.trans hl.1.symm) hown (hts _ q441) (hts _ q443) (hts _ q442) (hts _ q116) hK hP hD hS 8 8 0 0 rfl rfl rfl rfl rfl (by decide) (by decide) (by decide) (by decide) (by decide) (fun _ _ => rfl) (Nat.le_of_ble_eq_true rfl) (Nat.le_of_ble_eq_true rfl) dX2_looks_35 (fun H locs hP hD hS => ?_)
  have hP : va_P D zCl (cW k au (wd_s_log su_4 (va_cpy (wd_log su_4) (wd_log su_4) 0 4 236))) H := hP
  have hD : va_D A (cW k au (wd_s_log su_4 (va_cpy (wd_log su_4) (wd_log su_4) 0 4 236))) := hD
  obtain ⟨su_5, esu_5⟩ : ∃ z : Wd, z = (wd_s_log su_4 (va_cpy (wd_log su_4) (wd_log su_4) 0 4 236)) := ⟨_, rfl⟩
  rw [← esu_5] at hP hD
  have hrun := mlt_s hrun su_5 esu_5
  refine lv_aload_n hx hb dX2_looks_38 rfl (lv_at hl 0 rfl) ?_
  refine va_get (ci := 2) (v := .ref (au 8)) (C := RX2) (T := TX2) (N := 21) hx hb hts in_X2 hown hK hP 0 rfl rfl 19 (by decide) (hts _ q205) (fun _ h9 => h9) rfl dX2_looks_39 ?_
  refine lv_iconst (v := (0 : Int32)) hx hb dX2_looks_42 (by decide) ?_
  refine lv_aload_n hx hb dX2_looks_43 rfl (lv_at hl 0 rfl) ?_
  refine va_get (ci := 2) (v := .int (wd_day su_5)) (C := RX2) (T := TX2) (N := 21) hx hb hts in_X2 hown hK hP 0 rfl rfl 2 (by decide) (hts _ q167) (fun _ h9 => h9) rfl dX2_looks_44 ?_
  refine va_iastk (k := 0) hx hb hK hP hD hS 8 0 rfl rfl rfl (show ¬ _ from by decide) dX2_looks_47 (fun H locs hP hD hS => ?_)
  have hP : va_P D zCl (cW k au (wd_s_log su_5 (upd (wd_log su_5) 0 (wd_day su_5)))) H := hP
  have hD : va_D A (cW k au (wd_s_log su_5 (upd (wd_log su_5) 0 (wd_day su_5)))) := hD
  obtain ⟨su_6, esu_6⟩ : ∃ z : Wd, z = (wd_s_log su_5 (upd (wd_log su_5) 0 (wd_day su_5))) := ⟨_, rfl⟩
  rw [← esu_6] at hP hD
  have hrun := mlt_s hrun su_6 esu_6
  refine lv_aload_n hx hb dX2_looks_48 rfl (lv_at hl 0 rfl) ?_
  refine va_get (ci := 2) (v := .ref (au 8)) (C := RX2) (T := TX2) (N := 21) hx hb hts in_X2 hown hK hP 0 rfl rfl 19 (by decide) (hts _ q205) (fun _ h9 => h9) rfl dX2_looks_49 ?_
  refine lv_iconst (v := (1 : Int32)) hx hb dX2_looks_52 (by decide) ?_
  refine lv_iload_n hx hb dX2_looks_53 rfl (lv_at hl 1 rfl) ?_
  refine va_iastk (k := 1) hx hb hK hP hD hS 8 0 rfl rfl rfl (show ¬ _ from by decide) dX2_looks_54 (fun H locs hP hD hS => ?_)
  have hP : va_P D zCl (cW k au (wd_s_log su_6 (upd (wd_log su_6) 1 p1))) H := hP
  have hD : va_D A (cW k au (wd_s_log su_6 (upd (wd_log su_6) 1 p1))) := hD
  obtain ⟨su_7, esu_7⟩ : ∃ z : Wd, z = (wd_s_log su_6 (upd (wd_log su_6) 1 p1)) := ⟨_, rfl⟩
  rw [← esu_7] at hP hD
  have hrun := mlt_s hrun su_7 esu_7
  refine lv_aload_n hx hb dX2_looks_55 rfl (lv_at hl 0 rfl) ?_
  refine va_get (ci := 2) (v := .ref (au 8)) (C := RX2) (T := TX2) (N := 21) hx hb hts in_X2 hown hK hP 0 rfl rfl 19 (by decide) (hts _ q205) (fun _ h9 => h9) rfl dX2_looks_56 ?_
  refine lv_iconst (v := (2 : Int32)) hx hb dX2_looks_59 (by decide) ?_
  refine lv_aload_n hx hb dX2_looks_60 rfl (lv_at hl 0 rfl) ?_
  refine va_get (ci := 2) (v := .ref (au 2)) (C := RX2) (T := TX2) (N := 21) hx hb hts in_X2 hown hK hP 0 rfl rfl 13 (by decide) (hts _ q190) (fun _ h9 => h9) rfl dX2_looks_61 ?_
  refine lv_iload_n hx hb dX2_looks_64 rfl (lv_at hl 1 rfl) ?_
  obtain ⟨hb_8, hrun⟩ := mck_s rfl hrun
  refine va_iald hx hb hK hP 2 0 rfl rfl hb_8 dX2_looks_65 ?_
  refine va_iastk (k := 2) hx hb hK hP hD hS 8 0 rfl rfl rfl (show ¬ _ from by decide) dX2_looks_66 (fun H locs hP hD hS => ?_)
  have hP : va_P D zCl (cW k au (wd_s_log su_7 (upd (wd_log su_7) 2 ((wd_room su_7) (Int32.toNatClampNeg p1))))) H := hP
  have hD : va_D A (cW k au (wd_s_log su_7 (upd (wd_log su_7) 2 ((wd_room su_7) (Int32.toNatClampNeg p1))))) := hD
  obtain ⟨su_9, esu_9⟩ : ∃ z : Wd, z = (wd_s_log su_7 (upd (wd_log su_7) 2 ((wd_room su_7) (Int32.toNatClampNeg p1)))) := ⟨_, rfl⟩
  rw [← esu_9] at hP hD
  have hrun := mlt_s hrun su_9 esu_9
  refine lv_aload_n hx hb dX2_looks_67 rfl (lv_at hl 0 rfl) ?_
  refine va_get (ci := 2) (v := .ref (au 8)) (C := RX2) (T := TX2) (N := 21) hx hb hts in_X2 hown hK hP 0 rfl rfl 19 (by decide) (hts _ q205) (fun _ h9 => h9) rfl dX2_looks_68 ?_
  refine lv_iconst (v := (3 : Int32)) hx hb dX2_looks_71 (by decide) ?_
  refine lv_aload_n hx hb dX2_looks_72 rfl (lv_at hl 0 rfl) ?_
  refine va_get (ci := 2) (v := .int (wd_bath su_9)) (C := RX2) (T := TX2) (N := 21) hx hb hts in_X2 hown hK hP 0 rfl rfl 3 (by decide) (hts _ q169) (fun _ h9 => h9) rfl dX2_looks_73 ?_
  refine va_iastk (k := 3) hx hb hK hP hD hS 8 0 rfl rfl rfl (show ¬ _ from by decide) dX2_looks_76 (fun H locs hP hD hS => ?_)
  have hP : va_P D zCl (cW k au (wd_s_log su_9 (upd (wd_log su_9) 3 (wd_bath su_9)))) H := hP
  have hD : va_D A (cW k au (wd_s_log su_9 (upd (wd_log su_9) 3 (wd_bath su_9)))) := hD
  obtain ⟨su_10, esu_10⟩ : ∃ z : Wd, z = (wd_s_log su_9 (upd (wd_log su_9) 3 (wd_bath su_9))) := ⟨_, rfl⟩
  rw [← esu_10] at hP hD
  have hrun := mlt_s hrun su_10 esu_10
  refine lv_aload_n hx hb dX2_looks_77 rfl (lv_at hl 0 rfl) ?_
  refine lv_bipush (v := (60 : Int32)) hx hb dX2_looks_78 (by decide) ?_
  refine lv_aload_n hx hb dX2_looks_80 rfl (lv_at hl 0 rfl) ?_
  refine va_get (ci := 2) (v := .int (wd_logged su_10)) (C := RX2) (T := TX2) (N := 21) hx hb hts in_X2 hown hK hP 0 rfl rfl 10 (by decide) (hts _ q184) (fun _ h9 => h9) rfl dX2_looks_81 ?_
  refine lv_iconst (v := (1 : Int32)) hx hb dX2_looks_84 (by decide) ?_
  refine lv_iadd hx hb dX2_looks_85 ?_
  refine va_mmin hx hb (hml.trans hl.1.symm) hown (hts _ q549) (hts _ q550) (hts _ q122) (hts _ q551) (Nat.le_of_ble_eq_true rfl) (Nat.le_of_ble_eq_true rfl) (Nat.le_of_ble_eq_true rfl) (Nat.le_of_ble_eq_true rfl) dX2_looks_86 ?_
  refine lv_topi (fun v_11 ev_11 => ?_)
  have hrun := mlt_s hrun v_11 ev_11
  refine va_put (ci := 2) (v := .int v_11) (ty := tyX2 10) (C := RX2) (T := TX2) (N := 21) hx hb hts in_X2 tyX2 tyX2_ok nmX2 hown hK hP hD hS 0 rfl rfl 10 (by decide) (hts _ q184) (fun _ h9 => h9) rfl (tyX2_ok 10 (by decide)) rfl rfl (Nat.le_of_ble_eq_true rfl) dX2_looks_89 (fun H locs hP hD hS => ?_)
  have hP : va_P D zCl (cW k au (wd_s_logged su_10 v_11)) H := hP
  have hD : va_D A (cW k au (wd_s_logged su_10 v_11)) := hD
  obtain ⟨su_12, esu_12⟩ : ∃ z : Wd, z = (wd_s_logged su_10 v_11) := ⟨_, rfl⟩
  rw [← esu_12] at hP hD
  have hrun := mlt_s hrun su_12 esu_12
  cases hrun
  exact retW_v hx hb hr hlocks hP hD hS ⟨rfl, rfl⟩ dX2_looks_92
def rX2_likens : Room := { frames := 2, cells := 0, slots := 0, locals := 90 }
noncomputable def fX2_likens (su : Wd) (sv : Wd) : Option (Wd) :=
  mlt (wd_s_texts su (wd_texts sv)) fun su_1 =>
  mlt (wd_s_guests su_1 (wd_guests sv)) fun su_2 =>
  mlt (wd_s_day su_2 (wd_day sv)) fun su_3 =>
  mlt (wd_s_bath su_3 (wd_bath sv)) fun su_4 =>
  mlt (wd_s_kept su_4 (wd_kept sv)) fun su_5 =>
  mlt (wd_s_masons su_5 (wd_masons sv)) fun su_6 =>
  mlt (wd_s_stones su_6 (wd_stones sv)) fun su_7 =>
  mlt (wd_s_towers su_7 (wd_towers sv)) fun su_8 =>
  mlt (wd_s_bore su_8 (wd_bore sv)) fun su_9 =>
  mlt (wd_s_seen su_9 (wd_seen sv)) fun su_10 =>
  mlt (wd_s_logged su_10 (wd_logged sv)) fun su_11 =>
  mlt (wd_s_seed su_11 (wd_seed sv)) fun su_12 =>
  mlt (wd_s_law su_12 (wd_law sv)) fun su_13 =>
  mlt (wd_s_shift su_13 (va_cpy (wd_shift sv) (wd_shift su_13) 0 0 2)) fun su_14 =>
  mlt (wd_s_room su_14 (va_cpy (wd_room sv) (wd_room su_14) 0 0 8)) fun su_15 =>
  mlt (wd_s_wish su_15 (va_cpy (wd_wish sv) (wd_wish su_15) 0 0 8)) fun su_16 =>
  mlt (wd_s_doubt su_16 (va_cpy (wd_doubt sv) (wd_doubt su_16) 0 0 8)) fun su_17 =>
  mlt (wd_s_key su_17 (va_cpy (wd_key sv) (wd_key su_17) 0 0 8)) fun su_18 =>
  mlt (wd_s_here su_18 (va_cpy (wd_here sv) (wd_here su_18) 0 0 8)) fun su_19 =>
  mlt (wd_s_holes su_19 (va_cpy (wd_holes sv) (wd_holes su_19) 0 0 8)) fun su_20 =>
  mlt (wd_s_log su_20 (va_cpy (wd_log sv) (wd_log su_20) 0 0 240)) fun su_21 =>
  some su_21
theorem kX2_likens {R : Room} {s : State} {args : Array Value} {own : String} {idx mc ms : Nat} {rm : Room} (hts : ∀ w ∈ lw_all, w.before args s = true) (hl : Cond.methodLink own idx yX2_likens ∈ lw_all) (hrc : rm.cells = mc) (hrs : rm.slots = ms) (hR : rm.frames + 1 ≤ R.frames ∧ 8 + (2 + 11) + rm.locals ≤ R.locals) : CallW R s args own RX2 idx yX2_likens cX2_likens 2 (some (.object "SaturdayKeep$World")) (ws_ yX2_likens cX2_likens 2 (some (.object "SaturdayKeep$World"))) rm mc ms 1 :=
  cwV 1 hts (lw_V hl q435 q436 q108 q437) rfl hrc hrs (by decide +kernel) hR
set_option maxHeartbeats 4000000 in
set_option maxRecDepth 100000 in
theorem mtX2_likens (l : Launch) (D : va_G) (k : Nat → ClassId) (au : Nat → Nat) (av : Nat → Nat) (Z : zZ) (hOK : zOK D zCl (zTys k) Z) (su : Wd) (sv : Wd) (ou : Wd) (hrun : fX2_likens su sv = some ou) :
    CtW l yX2_likens cX2_likens 2 (some (.object "SaturdayKeep$World")) rX2_likens Z D zCl ((cW k au su) ++ (cW k av sv)) [.ref (au 0), .ref (av 0)] (fun r' w' => r' = (some (.ref (au 0))) ∧ w' = ((cW k au ou) ++ (cW k av sv))) 0 0 := by
  refine CtW.of (by decide) (Nat.le_of_ble_eq_true rfl) ?_
  intro p e s m args below meth c A hE hA hP hD hS hz ls hl
  obtain ⟨hx, hb, hr, hml, hown, hts, hlocks, hname⟩ := hE
  have hown : s.vm.findClass RX2 = some m.cls := hown
  have hK := hOK.1 _ _ _ hz
  have hN := hOK.2.1 _ _ _ hz
  have hl : lv_has ls 2 [(0, .ref (au 0)), (1, .ref (av 0))] := hl
  unfold fX2_likens at hrun
  refine lv_aload_n hx hb dX2_likens_0 rfl (lv_at hl 0 rfl) ?_
  refine lv_aload_n hx hb dX2_likens_1 rfl (lv_at hl 1 rfl) ?_
  refine va_get (ci := 2) (v := .int (wd_texts sv)) (C := RX2) (T := TX2) (N := 21) hx hb hts in_X2 hown hK hP 9 rfl rfl 0 (by decide) (hts _ q162) (fun _ h9 => h9) rfl dX2_likens_2 ?_
  refine va_put (ci := 2) (v := .int (wd_texts sv)) (ty := tyX2 0) (C := RX2) (T := TX2) (N := 21) hx hb hts in_X2 tyX2 tyX2_ok nmX2 hown hK hP hD hS 0 rfl rfl 0 (by decide) (hts _ q162) (fun _ h9 => h9) rfl (tyX2_ok 0 (by decide)) rfl rfl (Nat.le_of_ble_eq_true rfl) dX2_likens_5 (fun H locs hP hD hS => ?_)
  have hP : va_P D zCl ((cW k au (wd_s_texts su (wd_texts sv))) ++ (cW k av sv)) H := hP
  have hD : va_D A ((cW k au (wd_s_texts su (wd_texts sv))) ++ (cW k av sv)) := hD
  obtain ⟨su_1, esu_1⟩ : ∃ z : Wd, z = (wd_s_texts su (wd_texts sv)) := ⟨_, rfl⟩
  rw [← esu_1] at hP hD
  have hrun := mlt_s hrun su_1 esu_1
  refine lv_aload_n hx hb dX2_likens_8 rfl (lv_at hl 0 rfl) ?_
  refine lv_aload_n hx hb dX2_likens_9 rfl (lv_at hl 1 rfl) ?_
  refine va_get (ci := 2) (v := .int (wd_guests sv)) (C := RX2) (T := TX2) (N := 21) hx hb hts in_X2 hown hK hP 9 rfl rfl 1 (by decide) (hts _ q164) (fun _ h9 => h9) rfl dX2_likens_10 ?_
  refine va_put (ci := 2) (v := .int (wd_guests sv)) (ty := tyX2 1) (C := RX2) (T := TX2) (N := 21) hx hb hts in_X2 tyX2 tyX2_ok nmX2 hown hK hP hD hS 0 rfl rfl 1 (by decide) (hts _ q164) (fun _ h9 => h9) rfl (tyX2_ok 1 (by decide)) rfl rfl (Nat.le_of_ble_eq_true rfl) dX2_likens_13 (fun H locs hP hD hS => ?_)
  have hP : va_P D zCl ((cW k au (wd_s_guests su_1 (wd_guests sv))) ++ (cW k av sv)) H := hP
  have hD : va_D A ((cW k au (wd_s_guests su_1 (wd_guests sv))) ++ (cW k av sv)) := hD
  obtain ⟨su_2, esu_2⟩ : ∃ z : Wd, z = (wd_s_guests su_1 (wd_guests sv)) := ⟨_, rfl⟩
  rw [← esu_2] at hP hD
  have hrun := mlt_s hrun su_2 esu_2
  refine lv_aload_n hx hb dX2_likens_16 rfl (lv_at hl 0 rfl) ?_
  refine lv_aload_n hx hb dX2_likens_17 rfl (lv_at hl 1 rfl) ?_
  refine va_get (ci := 2) (v := .int (wd_day sv)) (C := RX2) (T := TX2) (N := 21) hx hb hts in_X2 hown hK hP 9 rfl rfl 2 (by decide) (hts _ q167) (fun _ h9 => h9) rfl dX2_likens_18 ?_
  refine va_put (ci := 2) (v := .int (wd_day sv)) (ty := tyX2 2) (C := RX2) (T := TX2) (N := 21) hx hb hts in_X2 tyX2 tyX2_ok nmX2 hown hK hP hD hS 0 rfl rfl 2 (by decide) (hts _ q167) (fun _ h9 => h9) rfl (tyX2_ok 2 (by decide)) rfl rfl (Nat.le_of_ble_eq_true rfl) dX2_likens_21 (fun H locs hP hD hS => ?_)
  have hP : va_P D zCl ((cW k au (wd_s_day su_2 (wd_day sv))) ++ (cW k av sv)) H := hP
  have hD : va_D A ((cW k au (wd_s_day su_2 (wd_day sv))) ++ (cW k av sv)) := hD
  obtain ⟨su_3, esu_3⟩ : ∃ z : Wd, z = (wd_s_day su_2 (wd_day sv)) := ⟨_, rfl⟩
  rw [← esu_3] at hP hD
  have hrun := mlt_s hrun su_3 esu_3
  refine lv_aload_n hx hb dX2_likens_24 rfl (lv_at hl 0 rfl) ?_
  refine lv_aload_n hx hb dX2_likens_25 rfl (lv_at hl 1 rfl) ?_
  refine va_get (ci := 2) (v := .int (wd_bath sv)) (C := RX2) (T := TX2) (N := 21) hx hb hts in_X2 hown hK hP 9 rfl rfl 3 (by decide) (hts _ q169) (fun _ h9 => h9) rfl dX2_likens_26 ?_
  refine va_put (ci := 2) (v := .int (wd_bath sv)) (ty := tyX2 3) (C := RX2) (T := TX2) (N := 21) hx hb hts in_X2 tyX2 tyX2_ok nmX2 hown hK hP hD hS 0 rfl rfl 3 (by decide) (hts _ q169) (fun _ h9 => h9) rfl (tyX2_ok 3 (by decide)) rfl rfl (Nat.le_of_ble_eq_true rfl) dX2_likens_29 (fun H locs hP hD hS => ?_)
  have hP : va_P D zCl ((cW k au (wd_s_bath su_3 (wd_bath sv))) ++ (cW k av sv)) H := hP
  have hD : va_D A ((cW k au (wd_s_bath su_3 (wd_bath sv))) ++ (cW k av sv)) := hD
  obtain ⟨su_4, esu_4⟩ : ∃ z : Wd, z = (wd_s_bath su_3 (wd_bath sv)) := ⟨_, rfl⟩
  rw [← esu_4] at hP hD
  have hrun := mlt_s hrun su_4 esu_4
  refine lv_aload_n hx hb dX2_likens_32 rfl (lv_at hl 0 rfl) ?_
  refine lv_aload_n hx hb dX2_likens_33 rfl (lv_at hl 1 rfl) ?_
  refine va_get (ci := 2) (v := .int (wd_kept sv)) (C := RX2) (T := TX2) (N := 21) hx hb hts in_X2 hown hK hP 9 rfl rfl 4 (by decide) (hts _ q172) (fun _ h9 => h9) rfl dX2_likens_34 ?_
  refine va_put (ci := 2) (v := .int (wd_kept sv)) (ty := tyX2 4) (C := RX2) (T := TX2) (N := 21) hx hb hts in_X2 tyX2 tyX2_ok nmX2 hown hK hP hD hS 0 rfl rfl 4 (by decide) (hts _ q172) (fun _ h9 => h9) rfl (tyX2_ok 4 (by decide)) rfl rfl (Nat.le_of_ble_eq_true rfl) dX2_likens_37 (fun H locs hP hD hS => ?_)
  have hP : va_P D zCl ((cW k au (wd_s_kept su_4 (wd_kept sv))) ++ (cW k av sv)) H := hP
  have hD : va_D A ((cW k au (wd_s_kept su_4 (wd_kept sv))) ++ (cW k av sv)) := hD
  obtain ⟨su_5, esu_5⟩ : ∃ z : Wd, z = (wd_s_kept su_4 (wd_kept sv)) := ⟨_, rfl⟩
  rw [← esu_5] at hP hD
  have hrun := mlt_s hrun su_5 esu_5
  refine lv_aload_n hx hb dX2_likens_40 rfl (lv_at hl 0 rfl) ?_
  refine lv_aload_n hx hb dX2_likens_41 rfl (lv_at hl 1 rfl) ?_
  refine va_get (ci := 2) (v := .int (wd_masons sv)) (C := RX2) (T := TX2) (N := 21) hx hb hts in_X2 hown hK hP 9 rfl rfl 5 (by decide) (hts _ q174) (fun _ h9 => h9) rfl dX2_likens_42 ?_
  refine va_put (ci := 2) (v := .int (wd_masons sv)) (ty := tyX2 5) (C := RX2) (T := TX2) (N := 21) hx hb hts in_X2 tyX2 tyX2_ok nmX2 hown hK hP hD hS 0 rfl rfl 5 (by decide) (hts _ q174) (fun _ h9 => h9) rfl (tyX2_ok 5 (by decide)) rfl rfl (Nat.le_of_ble_eq_true rfl) dX2_likens_45 (fun H locs hP hD hS => ?_)
  have hP : va_P D zCl ((cW k au (wd_s_masons su_5 (wd_masons sv))) ++ (cW k av sv)) H := hP
  have hD : va_D A ((cW k au (wd_s_masons su_5 (wd_masons sv))) ++ (cW k av sv)) := hD
  obtain ⟨su_6, esu_6⟩ : ∃ z : Wd, z = (wd_s_masons su_5 (wd_masons sv)) := ⟨_, rfl⟩
  rw [← esu_6] at hP hD
  have hrun := mlt_s hrun su_6 esu_6
  refine lv_aload_n hx hb dX2_likens_48 rfl (lv_at hl 0 rfl) ?_
  refine lv_aload_n hx hb dX2_likens_49 rfl (lv_at hl 1 rfl) ?_
  refine va_get (ci := 2) (v := .int (wd_stones sv)) (C := RX2) (T := TX2) (N := 21) hx hb hts in_X2 hown hK hP 9 rfl rfl 6 (by decide) (hts _ q176) (fun _ h9 => h9) rfl dX2_likens_50 ?_
  refine va_put (ci := 2) (v := .int (wd_stones sv)) (ty := tyX2 6) (C := RX2) (T := TX2) (N := 21) hx hb hts in_X2 tyX2 tyX2_ok nmX2 hown hK hP hD hS 0 rfl rfl 6 (by decide) (hts _ q176) (fun _ h9 => h9) rfl (tyX2_ok 6 (by decide)) rfl rfl (Nat.le_of_ble_eq_true rfl) dX2_likens_53 (fun H locs hP hD hS => ?_)
  have hP : va_P D zCl ((cW k au (wd_s_stones su_6 (wd_stones sv))) ++ (cW k av sv)) H := hP
  have hD : va_D A ((cW k au (wd_s_stones su_6 (wd_stones sv))) ++ (cW k av sv)) := hD
  obtain ⟨su_7, esu_7⟩ : ∃ z : Wd, z = (wd_s_stones su_6 (wd_stones sv)) := ⟨_, rfl⟩
  rw [← esu_7] at hP hD
  have hrun := mlt_s hrun su_7 esu_7
  refine lv_aload_n hx hb dX2_likens_56 rfl (lv_at hl 0 rfl) ?_
  refine lv_aload_n hx hb dX2_likens_57 rfl (lv_at hl 1 rfl) ?_
  refine va_get (ci := 2) (v := .int (wd_towers sv)) (C := RX2) (T := TX2) (N := 21) hx hb hts in_X2 hown hK hP 9 rfl rfl 7 (by decide) (hts _ q178) (fun _ h9 => h9) rfl dX2_likens_58 ?_
  refine va_put (ci := 2) (v := .int (wd_towers sv)) (ty := tyX2 7) (C := RX2) (T := TX2) (N := 21) hx hb hts in_X2 tyX2 tyX2_ok nmX2 hown hK hP hD hS 0 rfl rfl 7 (by decide) (hts _ q178) (fun _ h9 => h9) rfl (tyX2_ok 7 (by decide)) rfl rfl (Nat.le_of_ble_eq_true rfl) dX2_likens_61 (fun H locs hP hD hS => ?_)
  have hP : va_P D zCl ((cW k au (wd_s_towers su_7 (wd_towers sv))) ++ (cW k av sv)) H := hP
  have hD : va_D A ((cW k au (wd_s_towers su_7 (wd_towers sv))) ++ (cW k av sv)) := hD
  obtain ⟨su_8, esu_8⟩ : ∃ z : Wd, z = (wd_s_towers su_7 (wd_towers sv)) := ⟨_, rfl⟩
  rw [← esu_8] at hP hD
  have hrun := mlt_s hrun su_8 esu_8
  refine lv_aload_n hx hb dX2_likens_64 rfl (lv_at hl 0 rfl) ?_
  refine lv_aload_n hx hb dX2_likens_65 rfl (lv_at hl 1 rfl) ?_
  refine va_get (ci := 2) (v := .int (wd_bore sv)) (C := RX2) (T := TX2) (N := 21) hx hb hts in_X2 hown hK hP 9 rfl rfl 8 (by decide) (hts _ q180) (fun _ h9 => h9) rfl dX2_likens_66 ?_
  refine va_put (ci := 2) (v := .int (wd_bore sv)) (ty := tyX2 8) (C := RX2) (T := TX2) (N := 21) hx hb hts in_X2 tyX2 tyX2_ok nmX2 hown hK hP hD hS 0 rfl rfl 8 (by decide) (hts _ q180) (fun _ h9 => h9) rfl (tyX2_ok 8 (by decide)) rfl rfl (Nat.le_of_ble_eq_true rfl) dX2_likens_69 (fun H locs hP hD hS => ?_)
  have hP : va_P D zCl ((cW k au (wd_s_bore su_8 (wd_bore sv))) ++ (cW k av sv)) H := hP
  have hD : va_D A ((cW k au (wd_s_bore su_8 (wd_bore sv))) ++ (cW k av sv)) := hD
  obtain ⟨su_9, esu_9⟩ : ∃ z : Wd, z = (wd_s_bore su_8 (wd_bore sv)) := ⟨_, rfl⟩
  rw [← esu_9] at hP hD
  have hrun := mlt_s hrun su_9 esu_9
  refine lv_aload_n hx hb dX2_likens_72 rfl (lv_at hl 0 rfl) ?_
  refine lv_aload_n hx hb dX2_likens_73 rfl (lv_at hl 1 rfl) ?_
  refine va_get (ci := 2) (v := .int (wd_seen sv)) (C := RX2) (T := TX2) (N := 21) hx hb hts in_X2 hown hK hP 9 rfl rfl 9 (by decide) (hts _ q182) (fun _ h9 => h9) rfl dX2_likens_74 ?_
  refine va_put (ci := 2) (v := .int (wd_seen sv)) (ty := tyX2 9) (C := RX2) (T := TX2) (N := 21) hx hb hts in_X2 tyX2 tyX2_ok nmX2 hown hK hP hD hS 0 rfl rfl 9 (by decide) (hts _ q182) (fun _ h9 => h9) rfl (tyX2_ok 9 (by decide)) rfl rfl (Nat.le_of_ble_eq_true rfl) dX2_likens_77 (fun H locs hP hD hS => ?_)
  have hP : va_P D zCl ((cW k au (wd_s_seen su_9 (wd_seen sv))) ++ (cW k av sv)) H := hP
  have hD : va_D A ((cW k au (wd_s_seen su_9 (wd_seen sv))) ++ (cW k av sv)) := hD
  obtain ⟨su_10, esu_10⟩ : ∃ z : Wd, z = (wd_s_seen su_9 (wd_seen sv)) := ⟨_, rfl⟩
  rw [← esu_10] at hP hD
  have hrun := mlt_s hrun su_10 esu_10
  refine lv_aload_n hx hb dX2_likens_80 rfl (lv_at hl 0 rfl) ?_
  refine lv_aload_n hx hb dX2_likens_81 rfl (lv_at hl 1 rfl) ?_
  refine va_get (ci := 2) (v := .int (wd_logged sv)) (C := RX2) (T := TX2) (N := 21) hx hb hts in_X2 hown hK hP 9 rfl rfl 10 (by decide) (hts _ q184) (fun _ h9 => h9) rfl dX2_likens_82 ?_
  refine va_put (ci := 2) (v := .int (wd_logged sv)) (ty := tyX2 10) (C := RX2) (T := TX2) (N := 21) hx hb hts in_X2 tyX2 tyX2_ok nmX2 hown hK hP hD hS 0 rfl rfl 10 (by decide) (hts _ q184) (fun _ h9 => h9) rfl (tyX2_ok 10 (by decide)) rfl rfl (Nat.le_of_ble_eq_true rfl) dX2_likens_85 (fun H locs hP hD hS => ?_)
  have hP : va_P D zCl ((cW k au (wd_s_logged su_10 (wd_logged sv))) ++ (cW k av sv)) H := hP
  have hD : va_D A ((cW k au (wd_s_logged su_10 (wd_logged sv))) ++ (cW k av sv)) := hD
  obtain ⟨su_11, esu_11⟩ : ∃ z : Wd, z = (wd_s_logged su_10 (wd_logged sv)) := ⟨_, rfl⟩
  rw [← esu_11] at hP hD
  have hrun := mlt_s hrun su_11 esu_11
  refine lv_aload_n hx hb dX2_likens_88 rfl (lv_at hl 0 rfl) ?_
  refine lv_aload_n hx hb dX2_likens_89 rfl (lv_at hl 1 rfl) ?_
  refine va_get (ci := 2) (v := .int (wd_seed sv)) (C := RX2) (T := TX2) (N := 21) hx hb hts in_X2 hown hK hP 9 rfl rfl 11 (by decide) (hts _ q186) (fun _ h9 => h9) rfl dX2_likens_90 ?_
  refine va_put (ci := 2) (v := .int (wd_seed sv)) (ty := tyX2 11) (C := RX2) (T := TX2) (N := 21) hx hb hts in_X2 tyX2 tyX2_ok nmX2 hown hK hP hD hS 0 rfl rfl 11 (by decide) (hts _ q186) (fun _ h9 => h9) rfl (tyX2_ok 11 (by decide)) rfl rfl (Nat.le_of_ble_eq_true rfl) dX2_likens_93 (fun H locs hP hD hS => ?_)
  have hP : va_P D zCl ((cW k au (wd_s_seed su_11 (wd_seed sv))) ++ (cW k av sv)) H := hP
  have hD : va_D A ((cW k au (wd_s_seed su_11 (wd_seed sv))) ++ (cW k av sv)) := hD
  obtain ⟨su_12, esu_12⟩ : ∃ z : Wd, z = (wd_s_seed su_11 (wd_seed sv)) := ⟨_, rfl⟩
  rw [← esu_12] at hP hD
  have hrun := mlt_s hrun su_12 esu_12
  refine lv_aload_n hx hb dX2_likens_96 rfl (lv_at hl 0 rfl) ?_
  refine lv_aload_n hx hb dX2_likens_97 rfl (lv_at hl 1 rfl) ?_
  refine va_get (ci := 2) (v := va_rf (wd_law sv)) (C := RX2) (T := TX2) (N := 21) hx hb hts in_X2 hown hK hP 9 rfl rfl 20 (by decide) (hts _ q207) (fun _ h9 => h9) rfl dX2_likens_98 ?_
  refine va_put (ci := 2) (v := va_rf (wd_law sv)) (ty := tyX2 20) (C := RX2) (T := TX2) (N := 21) hx hb hts in_X2 tyX2 tyX2_ok nmX2 hown hK hP hD hS 0 rfl rfl 20 (by decide) (hts _ q207) (fun _ h9 => h9) rfl (tyX2_ok 20 (by decide)) (q_nar _) (q_fit _) (Nat.le_of_ble_eq_true rfl) dX2_likens_101 (fun H locs hP hD hS => ?_)
  have hP : va_P D zCl ((cW k au (wd_s_law su_12 (wd_law sv))) ++ (cW k av sv)) H := hP
  have hD : va_D A ((cW k au (wd_s_law su_12 (wd_law sv))) ++ (cW k av sv)) := hD
  obtain ⟨su_13, esu_13⟩ : ∃ z : Wd, z = (wd_s_law su_12 (wd_law sv)) := ⟨_, rfl⟩
  rw [← esu_13] at hP hD
  have hrun := mlt_s hrun su_13 esu_13
  refine lv_aload_n hx hb dX2_likens_104 rfl (lv_at hl 1 rfl) ?_
  refine va_get (ci := 2) (v := .ref (av 1)) (C := RX2) (T := TX2) (N := 21) hx hb hts in_X2 hown hK hP 9 rfl rfl 12 (by decide) (hts _ q188) (fun _ h9 => h9) rfl dX2_likens_105 ?_
  refine lv_aload_n hx hb dX2_likens_108 rfl (lv_at hl 0 rfl) ?_
  refine va_get (ci := 2) (v := .ref (au 1)) (C := RX2) (T := TX2) (N := 21) hx hb hts in_X2 hown hK hP 0 rfl rfl 12 (by decide) (hts _ q188) (fun _ h9 => h9) rfl dX2_likens_109 ?_
  refine cRow (n := 2) ⟨hx, hb, hml, hown, hts⟩ hOK hz hS hA hP hD 10 1 rfl rfl (by decide) (by decide) (kX2_row hts q438 rfl rfl ⟨Nat.le_of_ble_eq_true rfl, Nat.le_of_ble_eq_true rfl⟩) hl.1 (lv_room (Nat.le_of_ble_eq_true rfl)) ⟨Nat.le_of_ble_eq_true rfl, Nat.le_of_ble_eq_true rfl⟩ dX2_likens_112 (fun H locs hP hD hS => ?_)
  have hP : va_P D zCl ((cW k au (wd_s_shift su_13 (va_cpy (wd_shift sv) (wd_shift su_13) 0 0 2))) ++ (cW k av sv)) H := hP
  have hD : va_D A ((cW k au (wd_s_shift su_13 (va_cpy (wd_shift sv) (wd_shift su_13) 0 0 2))) ++ (cW k av sv)) := hD
  obtain ⟨su_14, esu_14⟩ : ∃ z : Wd, z = (wd_s_shift su_13 (va_cpy (wd_shift sv) (wd_shift su_13) 0 0 2)) := ⟨_, rfl⟩
  rw [← esu_14] at hP hD
  have hrun := mlt_s hrun su_14 esu_14
  refine lv_aload_n hx hb dX2_likens_115 rfl (lv_at hl 1 rfl) ?_
  refine va_get (ci := 2) (v := .ref (av 2)) (C := RX2) (T := TX2) (N := 21) hx hb hts in_X2 hown hK hP 9 rfl rfl 13 (by decide) (hts _ q190) (fun _ h9 => h9) rfl dX2_likens_116 ?_
  refine lv_aload_n hx hb dX2_likens_119 rfl (lv_at hl 0 rfl) ?_
  refine va_get (ci := 2) (v := .ref (au 2)) (C := RX2) (T := TX2) (N := 21) hx hb hts in_X2 hown hK hP 0 rfl rfl 13 (by decide) (hts _ q190) (fun _ h9 => h9) rfl dX2_likens_120 ?_
  refine cRow (n := 8) ⟨hx, hb, hml, hown, hts⟩ hOK hz hS hA hP hD 11 2 rfl rfl (by decide) (by decide) (kX2_row hts q438 rfl rfl ⟨Nat.le_of_ble_eq_true rfl, Nat.le_of_ble_eq_true rfl⟩) hl.1 (lv_room (Nat.le_of_ble_eq_true rfl)) ⟨Nat.le_of_ble_eq_true rfl, Nat.le_of_ble_eq_true rfl⟩ dX2_likens_123 (fun H locs hP hD hS => ?_)
  have hP : va_P D zCl ((cW k au (wd_s_room su_14 (va_cpy (wd_room sv) (wd_room su_14) 0 0 8))) ++ (cW k av sv)) H := hP
  have hD : va_D A ((cW k au (wd_s_room su_14 (va_cpy (wd_room sv) (wd_room su_14) 0 0 8))) ++ (cW k av sv)) := hD
  obtain ⟨su_15, esu_15⟩ : ∃ z : Wd, z = (wd_s_room su_14 (va_cpy (wd_room sv) (wd_room su_14) 0 0 8)) := ⟨_, rfl⟩
  rw [← esu_15] at hP hD
  have hrun := mlt_s hrun su_15 esu_15
  refine lv_aload_n hx hb dX2_likens_126 rfl (lv_at hl 1 rfl) ?_
  refine va_get (ci := 2) (v := .ref (av 3)) (C := RX2) (T := TX2) (N := 21) hx hb hts in_X2 hown hK hP 9 rfl rfl 14 (by decide) (hts _ q193) (fun _ h9 => h9) rfl dX2_likens_127 ?_
  refine lv_aload_n hx hb dX2_likens_130 rfl (lv_at hl 0 rfl) ?_
  refine va_get (ci := 2) (v := .ref (au 3)) (C := RX2) (T := TX2) (N := 21) hx hb hts in_X2 hown hK hP 0 rfl rfl 14 (by decide) (hts _ q193) (fun _ h9 => h9) rfl dX2_likens_131 ?_
  refine cRow (n := 8) ⟨hx, hb, hml, hown, hts⟩ hOK hz hS hA hP hD 12 3 rfl rfl (by decide) (by decide) (kX2_row hts q438 rfl rfl ⟨Nat.le_of_ble_eq_true rfl, Nat.le_of_ble_eq_true rfl⟩) hl.1 (lv_room (Nat.le_of_ble_eq_true rfl)) ⟨Nat.le_of_ble_eq_true rfl, Nat.le_of_ble_eq_true rfl⟩ dX2_likens_134 (fun H locs hP hD hS => ?_)
  have hP : va_P D zCl ((cW k au (wd_s_wish su_15 (va_cpy (wd_wish sv) (wd_wish su_15) 0 0 8))) ++ (cW k av sv)) H := hP
  have hD : va_D A ((cW k au (wd_s_wish su_15 (va_cpy (wd_wish sv) (wd_wish su_15) 0 0 8))) ++ (cW k av sv)) := hD
  obtain ⟨su_16, esu_16⟩ : ∃ z : Wd, z = (wd_s_wish su_15 (va_cpy (wd_wish sv) (wd_wish su_15) 0 0 8)) := ⟨_, rfl⟩
  rw [← esu_16] at hP hD
  have hrun := mlt_s hrun su_16 esu_16
  refine lv_aload_n hx hb dX2_likens_137 rfl (lv_at hl 1 rfl) ?_
  refine va_get (ci := 2) (v := .ref (av 4)) (C := RX2) (T := TX2) (N := 21) hx hb hts in_X2 hown hK hP 9 rfl rfl 15 (by decide) (hts _ q195) (fun _ h9 => h9) rfl dX2_likens_138 ?_
  refine lv_aload_n hx hb dX2_likens_141 rfl (lv_at hl 0 rfl) ?_
  refine va_get (ci := 2) (v := .ref (au 4)) (C := RX2) (T := TX2) (N := 21) hx hb hts in_X2 hown hK hP 0 rfl rfl 15 (by decide) (hts _ q195) (fun _ h9 => h9) rfl dX2_likens_142 ?_
  refine cRow (n := 8) ⟨hx, hb, hml, hown, hts⟩ hOK hz hS hA hP hD 13 4 rfl rfl (by decide) (by decide) (kX2_row hts q438 rfl rfl ⟨Nat.le_of_ble_eq_true rfl, Nat.le_of_ble_eq_true rfl⟩) hl.1 (lv_room (Nat.le_of_ble_eq_true rfl)) ⟨Nat.le_of_ble_eq_true rfl, Nat.le_of_ble_eq_true rfl⟩ dX2_likens_145 (fun H locs hP hD hS => ?_)
  have hP : va_P D zCl ((cW k au (wd_s_doubt su_16 (va_cpy (wd_doubt sv) (wd_doubt su_16) 0 0 8))) ++ (cW k av sv)) H := hP
  have hD : va_D A ((cW k au (wd_s_doubt su_16 (va_cpy (wd_doubt sv) (wd_doubt su_16) 0 0 8))) ++ (cW k av sv)) := hD
  obtain ⟨su_17, esu_17⟩ : ∃ z : Wd, z = (wd_s_doubt su_16 (va_cpy (wd_doubt sv) (wd_doubt su_16) 0 0 8)) := ⟨_, rfl⟩
  rw [← esu_17] at hP hD
  have hrun := mlt_s hrun su_17 esu_17
  refine lv_aload_n hx hb dX2_likens_148 rfl (lv_at hl 1 rfl) ?_
  refine va_get (ci := 2) (v := .ref (av 5)) (C := RX2) (T := TX2) (N := 21) hx hb hts in_X2 hown hK hP 9 rfl rfl 16 (by decide) (hts _ q197) (fun _ h9 => h9) rfl dX2_likens_149 ?_
  refine lv_iconst (v := (0 : Int32)) hx hb dX2_likens_152 (by decide) ?_
  refine lv_aload_n hx hb dX2_likens_153 rfl (lv_at hl 0 rfl) ?_
  refine va_get (ci := 2) (v := .ref (au 5)) (C := RX2) (T := TX2) (N := 21) hx hb hts in_X2 hown hK hP 0 rfl rfl 16 (by decide) (hts _ q197) (fun _ h9 => h9) rfl dX2_likens_154 ?_
  refine lv_iconst (v := (0 : Int32)) hx hb dX2_likens_157 (by decide) ?_
  refine lv_bipush (v := (8 : Int32)) hx hb dX2_likens_158 (by decide) ?_
  refine va_copyi (ty := .boolean) hx hb (hml.trans hl.1.symm) hown (hts _ q441) (hts _ q443) (hts _ q442) (hts _ q116) hK hP hD hS 14 5 1 1 rfl rfl rfl rfl rfl (by decide) (by decide) (by decide) (by decide) (by decide) (fun _ _ => (bz_fit _)) (Nat.le_of_ble_eq_true rfl) (Nat.le_of_ble_eq_true rfl) dX2_likens_160 (fun H locs hP hD hS => ?_)
  rw [bz_cpy] at hP hD
  have hP : va_P D zCl ((cW k au (wd_s_key su_17 (va_cpy (wd_key sv) (wd_key su_17) 0 0 8))) ++ (cW k av sv)) H := hP
  have hD : va_D A ((cW k au (wd_s_key su_17 (va_cpy (wd_key sv) (wd_key su_17) 0 0 8))) ++ (cW k av sv)) := hD
  obtain ⟨su_18, esu_18⟩ : ∃ z : Wd, z = (wd_s_key su_17 (va_cpy (wd_key sv) (wd_key su_17) 0 0 8)) := ⟨_, rfl⟩
  rw [← esu_18] at hP hD
  have hrun := mlt_s hrun su_18 esu_18
  refine lv_aload_n hx hb dX2_likens_163 rfl (lv_at hl 1 rfl) ?_
  refine va_get (ci := 2) (v := .ref (av 6)) (C := RX2) (T := TX2) (N := 21) hx hb hts in_X2 hown hK hP 9 rfl rfl 17 (by decide) (hts _ q200) (fun _ h9 => h9) rfl dX2_likens_164 ?_
  refine lv_iconst (v := (0 : Int32)) hx hb dX2_likens_167 (by decide) ?_
  refine lv_aload_n hx hb dX2_likens_168 rfl (lv_at hl 0 rfl) ?_
  refine va_get (ci := 2) (v := .ref (au 6)) (C := RX2) (T := TX2) (N := 21) hx hb hts in_X2 hown hK hP 0 rfl rfl 17 (by decide) (hts _ q200) (fun _ h9 => h9) rfl dX2_likens_169 ?_
  refine lv_iconst (v := (0 : Int32)) hx hb dX2_likens_172 (by decide) ?_
  refine lv_bipush (v := (8 : Int32)) hx hb dX2_likens_173 (by decide) ?_
  refine va_copyi (ty := .boolean) hx hb (hml.trans hl.1.symm) hown (hts _ q441) (hts _ q443) (hts _ q442) (hts _ q116) hK hP hD hS 15 6 1 1 rfl rfl rfl rfl rfl (by decide) (by decide) (by decide) (by decide) (by decide) (fun _ _ => (bz_fit _)) (Nat.le_of_ble_eq_true rfl) (Nat.le_of_ble_eq_true rfl) dX2_likens_175 (fun H locs hP hD hS => ?_)
  rw [bz_cpy] at hP hD
  have hP : va_P D zCl ((cW k au (wd_s_here su_18 (va_cpy (wd_here sv) (wd_here su_18) 0 0 8))) ++ (cW k av sv)) H := hP
  have hD : va_D A ((cW k au (wd_s_here su_18 (va_cpy (wd_here sv) (wd_here su_18) 0 0 8))) ++ (cW k av sv)) := hD
  obtain ⟨su_19, esu_19⟩ : ∃ z : Wd, z = (wd_s_here su_18 (va_cpy (wd_here sv) (wd_here su_18) 0 0 8)) := ⟨_, rfl⟩
  rw [← esu_19] at hP hD
  have hrun := mlt_s hrun su_19 esu_19
  refine lv_aload_n hx hb dX2_likens_178 rfl (lv_at hl 1 rfl) ?_
  refine va_get (ci := 2) (v := .ref (av 7)) (C := RX2) (T := TX2) (N := 21) hx hb hts in_X2 hown hK hP 9 rfl rfl 18 (by decide) (hts _ q203) (fun _ h9 => h9) rfl dX2_likens_179 ?_
  refine lv_aload_n hx hb dX2_likens_182 rfl (lv_at hl 0 rfl) ?_
  refine va_get (ci := 2) (v := .ref (au 7)) (C := RX2) (T := TX2) (N := 21) hx hb hts in_X2 hown hK hP 0 rfl rfl 18 (by decide) (hts _ q203) (fun _ h9 => h9) rfl dX2_likens_183 ?_
  refine cRow (n := 8) ⟨hx, hb, hml, hown, hts⟩ hOK hz hS hA hP hD 16 7 rfl rfl (by decide) (by decide) (kX2_row hts q438 rfl rfl ⟨Nat.le_of_ble_eq_true rfl, Nat.le_of_ble_eq_true rfl⟩) hl.1 (lv_room (Nat.le_of_ble_eq_true rfl)) ⟨Nat.le_of_ble_eq_true rfl, Nat.le_of_ble_eq_true rfl⟩ dX2_likens_186 (fun H locs hP hD hS => ?_)
  have hP : va_P D zCl ((cW k au (wd_s_holes su_19 (va_cpy (wd_holes sv) (wd_holes su_19) 0 0 8))) ++ (cW k av sv)) H := hP
  have hD : va_D A ((cW k au (wd_s_holes su_19 (va_cpy (wd_holes sv) (wd_holes su_19) 0 0 8))) ++ (cW k av sv)) := hD
  obtain ⟨su_20, esu_20⟩ : ∃ z : Wd, z = (wd_s_holes su_19 (va_cpy (wd_holes sv) (wd_holes su_19) 0 0 8)) := ⟨_, rfl⟩
  rw [← esu_20] at hP hD
  have hrun := mlt_s hrun su_20 esu_20
  refine lv_aload_n hx hb dX2_likens_189 rfl (lv_at hl 1 rfl) ?_
  refine va_get (ci := 2) (v := .ref (av 8)) (C := RX2) (T := TX2) (N := 21) hx hb hts in_X2 hown hK hP 9 rfl rfl 19 (by decide) (hts _ q205) (fun _ h9 => h9) rfl dX2_likens_190 ?_
  refine lv_aload_n hx hb dX2_likens_193 rfl (lv_at hl 0 rfl) ?_
  refine va_get (ci := 2) (v := .ref (au 8)) (C := RX2) (T := TX2) (N := 21) hx hb hts in_X2 hown hK hP 0 rfl rfl 19 (by decide) (hts _ q205) (fun _ h9 => h9) rfl dX2_likens_194 ?_
  refine cRow (n := 240) ⟨hx, hb, hml, hown, hts⟩ hOK hz hS hA hP hD 17 8 rfl rfl (by decide) (by decide) (kX2_row hts q438 rfl rfl ⟨Nat.le_of_ble_eq_true rfl, Nat.le_of_ble_eq_true rfl⟩) hl.1 (lv_room (Nat.le_of_ble_eq_true rfl)) ⟨Nat.le_of_ble_eq_true rfl, Nat.le_of_ble_eq_true rfl⟩ dX2_likens_197 (fun H locs hP hD hS => ?_)
  have hP : va_P D zCl ((cW k au (wd_s_log su_20 (va_cpy (wd_log sv) (wd_log su_20) 0 0 240))) ++ (cW k av sv)) H := hP
  have hD : va_D A ((cW k au (wd_s_log su_20 (va_cpy (wd_log sv) (wd_log su_20) 0 0 240))) ++ (cW k av sv)) := hD
  obtain ⟨su_21, esu_21⟩ : ∃ z : Wd, z = (wd_s_log su_20 (va_cpy (wd_log sv) (wd_log su_20) 0 0 240)) := ⟨_, rfl⟩
  rw [← esu_21] at hP hD
  have hrun := mlt_s hrun su_21 esu_21
  refine lv_aload_n hx hb dX2_likens_200 rfl (lv_at hl 0 rfl) ?_
  cases hrun
  exact retW_a hx hb hr (Or.inl ⟨_, rfl⟩) hlocks hP hD hS ⟨rfl, rfl⟩ dX2_likens_201
def rX1_shareOf : Room := { frames := 1, cells := 0, slots := 0, locals := 22 }
noncomputable def fX1_shareOf (sh : Kp) (sw : Wd) (p1 : Int32) : Option (Int32) :=
  mob (fX2_doubtOfAll sw) fun r_2 =>
  if r_2 = (0 : Int32) then
    some (0 : Int32)
  else
    mck p1 8 <|
    if ((wd_here sw) (Int32.toNatClampNeg p1)) = true then
      mck p1 8 <|
      mnz r_2 <|
      some (((100 : Int32) * ((wd_doubt sw) (Int32.toNatClampNeg p1))) / r_2)
    else
      some (0 : Int32)
theorem kX1_shareOf {R : Room} {s : State} {args : Array Value} {own : String} {idx mc ms : Nat} {rm : Room} (hts : ∀ w ∈ lw_all, w.before args s = true) (hl : Cond.methodLink own idx yX1_shareOf ∈ lw_all) (hrc : rm.cells = mc) (hrs : rm.slots = ms) (hR : rm.frames + 1 ≤ R.frames ∧ 8 + (3 + 11) + rm.locals ≤ R.locals) : CallW R s args own RX1 idx yX1_shareOf cX1_shareOf 3 (some .int) (ws_ yX1_shareOf cX1_shareOf 3 (some .int)) rm mc ms 1 :=
  cwV 1 hts (lw_V hl q1594 qs35 q107 q1595) rfl hrc hrs (by decide +kernel) hR
set_option maxHeartbeats 4000000 in
set_option maxRecDepth 100000 in
theorem mtX1_shareOf (l : Launch) (D : va_G) (k : Nat → ClassId) (ah : Nat → Nat) (aw : Nat → Nat) (adr : Nat → Nat) (aim : Nat → Nat) (ard : Nat → Nat) (asc : Nat → Nat) (ath : Nat → Nat) (awl : Nat → Nat) (alo : Nat → Nat) (atr : Nat → Nat) (Z : zZ) (hOK : zOK D zCl (zTys k) Z) (sh : Kp) (sw : Wd) (p1 : Int32) (r : Int32) (hrun : fX1_shareOf sh sw p1 = some r) :
    CtR l yX1_shareOf cX1_shareOf 3 (some .int) rX1_shareOf Z D zCl ((cH k ah aw adr aim ard asc ath awl alo atr sh) ++ (cW k aw sw)) [.ref (ah 0), .int p1] (some (.int r)) := by
  refine CtR.of (by decide) (Nat.le_of_ble_eq_true rfl) ?_
  intro p e s m args below meth c hE hP hz ls hl
  obtain ⟨hx, hb, hr, hml, hown, hts, hlocks, hname⟩ := hE
  have hown : s.vm.findClass RX1 = some m.cls := hown
  have hK := hOK.1 _ _ _ hz
  have hN := hOK.2.1 _ _ _ hz
  have hl : lv_has ls 3 [(0, .ref (ah 0)), (1, .int p1)] := hl
  unfold fX1_shareOf at hrun
  refine lv_aload_n hx hb dX1_shareOf_0 rfl (lv_at hl 0 rfl) ?_
  refine va_get (ci := 1) (v := .ref (aw 0)) (C := RX1) (T := TX1) (N := 10) hx hb hts in_X1 hown hK hP 0 rfl rfl 0 (by decide) (hts _ q370) (fun _ h9 => h9) rfl dX1_shareOf_1 ?_
  obtain ⟨r_2, hc_1, hrun⟩ := mob_s rfl hrun
  refine cRV (As := []) (ci := 2) ⟨hx, hb, hml, hown, hts⟩ hOK hz va_S.rf (hP.sub (ws' := (cW k aw sw)) [1, 2, 3, 4, 5, 6, 7, 8, 9] rfl) (mtX2_doubtOfAll l D k aw Z hOK _ _ hc_1) (kX2_doubtOfAll hts q745 rfl rfl ⟨Nat.le_of_ble_eq_true rfl, Nat.le_of_ble_eq_true rfl⟩) 0 rfl rfl rfl hl.1 rfl (lv_room (Nat.le_of_ble_eq_true rfl)) ⟨Nat.le_of_ble_eq_true rfl, Nat.le_of_ble_eq_true rfl⟩ dX1_shareOf_4 ?_
  refine lv_istore_n (lv' := [(2, .int r_2), (0, .ref (ah 0)), (1, .int p1)]) hx hb dX1_shareOf_7 rfl hl (by decide) rfl (fun ls hl => ?_)
  refine lv_iload_n hx hb dX1_shareOf_8 rfl (lv_at hl 0 rfl) ?_
  refine lv_if_eq (tgt := 24) hx hb dX1_shareOf_9 (by decide) (fun c_3 => ?_) (fun c_3 => ?_)
  · have hrun := mif_p c_3 hrun
    refine lv_iconst (v := (0 : Int32)) hx hb dX1_shareOf_24 (by decide) ?_
    refine lv_goto (tgt := 42) hx hb dX1_shareOf_25 (by decide) ?_
    cases hrun
    exact retR_i hx hb hr hlocks rfl dX1_shareOf_42
  have hrun := mif_n c_3 hrun
  refine lv_aload_n hx hb dX1_shareOf_12 rfl (lv_at hl 1 rfl) ?_
  refine va_get (ci := 1) (v := .ref (aw 0)) (C := RX1) (T := TX1) (N := 10) hx hb hts in_X1 hown hK hP 0 rfl rfl 0 (by decide) (hts _ q370) (fun _ h9 => h9) rfl dX1_shareOf_13 ?_
  refine va_getN (ci := 2) (v := .ref (aw 6)) (C := RX2) (T := TX2) (N := 21) hx hb hts in_X2 hown hK hP 1 rfl rfl 17 (by decide) (va_Nw.use rfl (hN _ (zN_of q202 rfl))) (fun _ h9 => h9) rfl dX1_shareOf_16 ?_
  refine lv_iload_n hx hb dX1_shareOf_19 rfl (lv_at hl 2 rfl) ?_
  obtain ⟨hb_4, hrun⟩ := mck_s rfl hrun
  refine va_zald hx hb hK hP 7 1 rfl rfl hb_4 dX1_shareOf_20 ?_
  refine lv_if_ne (tgt := 28) hx hb dX1_shareOf_21 (by decide) (fun c_5 => ?_) (fun c_5 => ?_)
  · have hrun := mif_p (bz_nz c_5) hrun
    refine lv_bipush (v := (100 : Int32)) hx hb dX1_shareOf_28 (by decide) ?_
    refine lv_aload_n hx hb dX1_shareOf_30 rfl (lv_at hl 1 rfl) ?_
    refine va_get (ci := 1) (v := .ref (aw 0)) (C := RX1) (T := TX1) (N := 10) hx hb hts in_X1 hown hK hP 0 rfl rfl 0 (by decide) (hts _ q370) (fun _ h9 => h9) rfl dX1_shareOf_31 ?_
    refine va_getN (ci := 2) (v := .ref (aw 4)) (C := RX2) (T := TX2) (N := 21) hx hb hts in_X2 hown hK hP 1 rfl rfl 15 (by decide) (va_Nw.use rfl (hN _ (zN_of q196 rfl))) (fun _ h9 => h9) rfl dX1_shareOf_34 ?_
    refine lv_iload_n hx hb dX1_shareOf_37 rfl (lv_at hl 2 rfl) ?_
    obtain ⟨hb_6, hrun⟩ := mck_s rfl hrun
    refine va_iald hx hb hK hP 5 0 rfl rfl hb_6 dX1_shareOf_38 ?_
    refine lv_imul hx hb dX1_shareOf_39 ?_
    refine lv_iload_n hx hb dX1_shareOf_40 rfl (lv_at hl 0 rfl) ?_
    obtain ⟨hn_7, hrun⟩ := mnz_s rfl hrun
    refine lv_idiv hx hb dX1_shareOf_41 hn_7 ?_
    cases hrun
    exact retR_i hx hb hr hlocks rfl dX1_shareOf_42
  have hrun := mif_n (bz_z c_5) hrun
  refine lv_iconst (v := (0 : Int32)) hx hb dX1_shareOf_24 (by decide) ?_
  refine lv_goto (tgt := 42) hx hb dX1_shareOf_25 (by decide) ?_
  cases hrun
  exact retR_i hx hb hr hlocks rfl dX1_shareOf_42
