/-! walks: X6_turnsBy, X6_goes -/
def rX6_turnsBy : Room := { frames := 38, cells := 0, slots := 0, locals := 1031 }
noncomputable def fX6_turnsBy (t : Tw) (p1 : Int32) : Option (Int32 × Tw) :=
  if ((tw_m t) 1) = (-1 : Int32) then
    some ((1 : Int32), t)
  else
    mlt (tw_s_fact t (upd (tw_fact t) 0 p1)) fun t_2 =>
    mob (fX6_of t_2 p1 (0 : Int32)) fun r_4 =>
    mlt (tw_s_fact t_2 (upd (tw_fact t_2) 1 r_4)) fun t_5 =>
    mob (fX6_of t_5 p1 (1 : Int32)) fun r_7 =>
    mlt (tw_s_fact t_5 (upd (tw_fact t_5) 2 r_7)) fun t_8 =>
    mob (fX6_of t_8 p1 (2 : Int32)) fun r_10 =>
    mlt (tw_s_fact t_8 (upd (tw_fact t_8) 3 r_10)) fun t_11 =>
    mlt (tw_s_fact t_11 (upd (tw_fact t_11) 4 ((tw_m t_11) 8))) fun t_12 =>
    mob (fX6_of t_12 p1 (0 : Int32)) fun r_14 =>
    mck ((16 : Int32) + r_14) 704 <|
    mob (fX6_bits ((tw_m t_12) (Int32.toNatClampNeg ((16 : Int32) + r_14)))) fun r_17 =>
    mlt (tw_s_fact t_12 (upd (tw_fact t_12) 5 r_17)) fun t_18 =>
    mlt (tw_s_fact t_18 (upd (tw_fact t_18) 6 (((tw_m t_18) 10) / (7 : Int32)))) fun t_19 =>
    mob (fX6_of t_19 p1 (3 : Int32)) fun r_21 =>
    mjn (fun (y_24 : Bool) =>
    mlt (tw_s_hasKey t_19 y_24) fun t_26 =>
    mob (fX6_isSaturday t_26 ((tw_m t_26) 5) (((tw_m t_26) 10) + (1 : Int32))) fun r_28 =>
    mlt (tw_s_isEve t_26 r_28) fun t_29 =>
    mlt (tw_s_turns t_29 (0 : Int32)) fun t_30 =>
    mlt (tw_s_fault t_30 (-1 : Int32)) fun t_31 =>
    mlt (tw_s_base t_31 (304 : Int32)) fun t_32 =>
    mlt (tw_s_end_ t_32 ((tw_m t_32) 2)) fun t_33 =>
    mlt (tw_s_at_ t_33 (0 : Int32)) fun t_34 =>
    mlt (tw_s_deep t_34 (0 : Int32)) fun t_35 =>
    mo2 (fX6_read t_35 true) fun r_38 t_37 =>
    mlt (tw_s_fault t_37 (tw_fault t_30)) fun t_39 =>
    some ((tw_turns t_39), t_39)) fun K_25 =>
    if r_21 = (1 : Int32) then
      K_25 true
    else
      K_25 false
theorem kX6_turnsBy {R : Room} {s : State} {args : Array Value} {own : String} {idx mc ms : Nat} {rm : Room} (hts : ∀ w ∈ lw_all, w.before args s = true) (hl : Cond.methodLink own idx yX6_turnsBy ∈ lw_all) (hrc : rm.cells = mc) (hrs : rm.slots = ms) (hR : rm.frames + 1 ≤ R.frames ∧ 8 + (4 + 11) + rm.locals ≤ R.locals) : CallW R s args own RX6 idx yX6_turnsBy cX6_turnsBy 4 (some .int) (ws_ yX6_turnsBy cX6_turnsBy 4 (some .int)) rm mc ms 1 :=
  cwV 1 hts (lw_V hl q2146 qs76 q115 q2147) rfl hrc hrs (by decide +kernel) hR
set_option maxHeartbeats 4000000 in
set_option maxRecDepth 100000 in
theorem mtX6_turnsBy (l : Launch) (D : va_G) (k : Nat → ClassId) (a : Nat → Nat) (Z : zZ) (hOK : zOK D zCl (zTys k) Z) {adK adV : Nat → Nat} (hStr : zStr Z adK adV) (t : Tw) (p1 : Int32) (r : Int32) (tt : Tw) (hrun : fX6_turnsBy t p1 = some (r, tt)) :
    CtW l yX6_turnsBy cX6_turnsBy 4 (some .int) rX6_turnsBy Z D zCl (cT k a t) [.ref (a 0), .int p1] (fun r' w' => r' = (some (.int r)) ∧ w' = cT k a tt) 0 0 := by
  refine CtW.of (by decide) (Nat.le_of_ble_eq_true rfl) ?_
  intro p e s m args below meth c A hE hA hP hD hS hz ls hl
  obtain ⟨hx, hb, hr, hml, hown, hts, hlocks, hname⟩ := hE
  have hown : s.vm.findClass RX6 = some m.cls := hown
  have hK := hOK.1 _ _ _ hz
  have hl : lv_has ls 4 [(0, .ref (a 0)), (1, .int p1)] := hl
  unfold fX6_turnsBy at hrun
  refine lv_aload_n hx hb dX6_turnsBy_0 rfl (lv_at hl 0 rfl) ?_
  refine va_get (ci := 0) (v := .ref (a 1)) (C := RX6) (T := TX6) (N := 22) hx hb hts in_X6 hown hK hP 0 rfl rfl 1 (by decide) (hts _ q1903) (fun _ h9 => h9) rfl dX6_turnsBy_1 ?_
  refine lv_iconst (v := (1 : Int32)) hx hb dX6_turnsBy_4 (by decide) ?_
  refine va_ialdk (k := 1) hx hb hK hP 1 0 rfl rfl rfl (show ¬ _ from by decide) dX6_turnsBy_5 ?_
  refine lv_iconst (v := (-1 : Int32)) hx hb dX6_turnsBy_6 (by decide) ?_
  refine lv_icmp_ne (tgt := 12) hx hb dX6_turnsBy_7 (by decide) (fun c_1 => ?_) (fun c_1 => ?_)
  · have hrun := mif_n c_1 hrun
    refine lv_aload_n hx hb dX6_turnsBy_12 rfl (lv_at hl 0 rfl) ?_
    refine va_get (ci := 0) (v := .ref (a 6)) (C := RX6) (T := TX6) (N := 22) hx hb hts in_X6 hown hK hP 0 rfl rfl 14 (by decide) (hts _ q1916) (fun _ h9 => h9) rfl dX6_turnsBy_13 ?_
    refine lv_iconst (v := (0 : Int32)) hx hb dX6_turnsBy_16 (by decide) ?_
    refine lv_iload_n hx hb dX6_turnsBy_17 rfl (lv_at hl 1 rfl) ?_
    refine va_iastk (k := 0) hx hb hK hP hD hS 6 0 rfl rfl rfl (show ¬ _ from by decide) dX6_turnsBy_18 (fun H locs hP hD hS => ?_)
    have hP : va_P D zCl (cT k a (tw_s_fact t (upd (tw_fact t) 0 p1))) H := hP
    have hD : va_D A (cT k a (tw_s_fact t (upd (tw_fact t) 0 p1))) := hD
    obtain ⟨t_2, et_2⟩ : ∃ z : Tw, z = (tw_s_fact t (upd (tw_fact t) 0 p1)) := ⟨_, rfl⟩
    rw [← et_2] at hP hD
    have hrun := mlt_s hrun t_2 et_2
    refine lv_aload_n hx hb dX6_turnsBy_19 rfl (lv_at hl 0 rfl) ?_
    refine va_get (ci := 0) (v := .ref (a 6)) (C := RX6) (T := TX6) (N := 22) hx hb hts in_X6 hown hK hP 0 rfl rfl 14 (by decide) (hts _ q1916) (fun _ h9 => h9) rfl dX6_turnsBy_20 ?_
    refine lv_iconst (v := (1 : Int32)) hx hb dX6_turnsBy_23 (by decide) ?_
    refine lv_aload_n hx hb dX6_turnsBy_24 rfl (lv_at hl 0 rfl) ?_
    refine lv_iload_n hx hb dX6_turnsBy_25 rfl (lv_at hl 1 rfl) ?_
    refine lv_iconst (v := (0 : Int32)) hx hb dX6_turnsBy_26 (by decide) ?_
    obtain ⟨r_4, hc_3, hrun⟩ := mob_s rfl hrun
    refine cRV (As := [.int p1, .int (0 : Int32)]) (ci := 0) ⟨hx, hb, hml, hown, hts⟩ hOK hz hS hP (mtX6_of l D k a Z hOK _ _ _ _ hc_3) (kX6_of hts q2136 rfl rfl ⟨Nat.le_of_ble_eq_true rfl, Nat.le_of_ble_eq_true rfl⟩) 0 rfl rfl rfl hl.1 rfl (lv_room (Nat.le_of_ble_eq_true rfl)) ⟨Nat.le_of_ble_eq_true rfl, Nat.le_of_ble_eq_true rfl⟩ dX6_turnsBy_27 ?_
    refine va_iastk (k := 1) hx hb hK hP hD hS 6 0 rfl rfl rfl (show ¬ _ from by decide) dX6_turnsBy_30 (fun H locs hP hD hS => ?_)
    have hP : va_P D zCl (cT k a (tw_s_fact t_2 (upd (tw_fact t_2) 1 r_4))) H := hP
    have hD : va_D A (cT k a (tw_s_fact t_2 (upd (tw_fact t_2) 1 r_4))) := hD
    obtain ⟨t_5, et_5⟩ : ∃ z : Tw, z = (tw_s_fact t_2 (upd (tw_fact t_2) 1 r_4)) := ⟨_, rfl⟩
    rw [← et_5] at hP hD
    have hrun := mlt_s hrun t_5 et_5
    refine lv_aload_n hx hb dX6_turnsBy_31 rfl (lv_at hl 0 rfl) ?_
    refine va_get (ci := 0) (v := .ref (a 6)) (C := RX6) (T := TX6) (N := 22) hx hb hts in_X6 hown hK hP 0 rfl rfl 14 (by decide) (hts _ q1916) (fun _ h9 => h9) rfl dX6_turnsBy_32 ?_
    refine lv_iconst (v := (2 : Int32)) hx hb dX6_turnsBy_35 (by decide) ?_
    refine lv_aload_n hx hb dX6_turnsBy_36 rfl (lv_at hl 0 rfl) ?_
    refine lv_iload_n hx hb dX6_turnsBy_37 rfl (lv_at hl 1 rfl) ?_
    refine lv_iconst (v := (1 : Int32)) hx hb dX6_turnsBy_38 (by decide) ?_
    obtain ⟨r_7, hc_6, hrun⟩ := mob_s rfl hrun
    refine cRV (As := [.int p1, .int (1 : Int32)]) (ci := 0) ⟨hx, hb, hml, hown, hts⟩ hOK hz hS hP (mtX6_of l D k a Z hOK _ _ _ _ hc_6) (kX6_of hts q2136 rfl rfl ⟨Nat.le_of_ble_eq_true rfl, Nat.le_of_ble_eq_true rfl⟩) 0 rfl rfl rfl hl.1 rfl (lv_room (Nat.le_of_ble_eq_true rfl)) ⟨Nat.le_of_ble_eq_true rfl, Nat.le_of_ble_eq_true rfl⟩ dX6_turnsBy_39 ?_
    refine va_iastk (k := 2) hx hb hK hP hD hS 6 0 rfl rfl rfl (show ¬ _ from by decide) dX6_turnsBy_42 (fun H locs hP hD hS => ?_)
    have hP : va_P D zCl (cT k a (tw_s_fact t_5 (upd (tw_fact t_5) 2 r_7))) H := hP
    have hD : va_D A (cT k a (tw_s_fact t_5 (upd (tw_fact t_5) 2 r_7))) := hD
    obtain ⟨t_8, et_8⟩ : ∃ z : Tw, z = (tw_s_fact t_5 (upd (tw_fact t_5) 2 r_7)) := ⟨_, rfl⟩
    rw [← et_8] at hP hD
    have hrun := mlt_s hrun t_8 et_8
    refine lv_aload_n hx hb dX6_turnsBy_43 rfl (lv_at hl 0 rfl) ?_
    refine va_get (ci := 0) (v := .ref (a 6)) (C := RX6) (T := TX6) (N := 22) hx hb hts in_X6 hown hK hP 0 rfl rfl 14 (by decide) (hts _ q1916) (fun _ h9 => h9) rfl dX6_turnsBy_44 ?_
    refine lv_iconst (v := (3 : Int32)) hx hb dX6_turnsBy_47 (by decide) ?_
    refine lv_aload_n hx hb dX6_turnsBy_48 rfl (lv_at hl 0 rfl) ?_
    refine lv_iload_n hx hb dX6_turnsBy_49 rfl (lv_at hl 1 rfl) ?_
    refine lv_iconst (v := (2 : Int32)) hx hb dX6_turnsBy_50 (by decide) ?_
    obtain ⟨r_10, hc_9, hrun⟩ := mob_s rfl hrun
    refine cRV (As := [.int p1, .int (2 : Int32)]) (ci := 0) ⟨hx, hb, hml, hown, hts⟩ hOK hz hS hP (mtX6_of l D k a Z hOK _ _ _ _ hc_9) (kX6_of hts q2136 rfl rfl ⟨Nat.le_of_ble_eq_true rfl, Nat.le_of_ble_eq_true rfl⟩) 0 rfl rfl rfl hl.1 rfl (lv_room (Nat.le_of_ble_eq_true rfl)) ⟨Nat.le_of_ble_eq_true rfl, Nat.le_of_ble_eq_true rfl⟩ dX6_turnsBy_51 ?_
    refine va_iastk (k := 3) hx hb hK hP hD hS 6 0 rfl rfl rfl (show ¬ _ from by decide) dX6_turnsBy_54 (fun H locs hP hD hS => ?_)
    have hP : va_P D zCl (cT k a (tw_s_fact t_8 (upd (tw_fact t_8) 3 r_10))) H := hP
    have hD : va_D A (cT k a (tw_s_fact t_8 (upd (tw_fact t_8) 3 r_10))) := hD
    obtain ⟨t_11, et_11⟩ : ∃ z : Tw, z = (tw_s_fact t_8 (upd (tw_fact t_8) 3 r_10)) := ⟨_, rfl⟩
    rw [← et_11] at hP hD
    have hrun := mlt_s hrun t_11 et_11
    refine lv_aload_n hx hb dX6_turnsBy_55 rfl (lv_at hl 0 rfl) ?_
    refine va_get (ci := 0) (v := .ref (a 6)) (C := RX6) (T := TX6) (N := 22) hx hb hts in_X6 hown hK hP 0 rfl rfl 14 (by decide) (hts _ q1916) (fun _ h9 => h9) rfl dX6_turnsBy_56 ?_
    refine lv_iconst (v := (4 : Int32)) hx hb dX6_turnsBy_59 (by decide) ?_
    refine lv_aload_n hx hb dX6_turnsBy_60 rfl (lv_at hl 0 rfl) ?_
    refine va_get (ci := 0) (v := .ref (a 1)) (C := RX6) (T := TX6) (N := 22) hx hb hts in_X6 hown hK hP 0 rfl rfl 1 (by decide) (hts _ q1903) (fun _ h9 => h9) rfl dX6_turnsBy_61 ?_
    refine lv_bipush (v := (8 : Int32)) hx hb dX6_turnsBy_64 (by decide) ?_
    refine va_ialdk (k := 8) hx hb hK hP 1 0 rfl rfl rfl (show ¬ _ from by decide) dX6_turnsBy_66 ?_
    refine va_iastk (k := 4) hx hb hK hP hD hS 6 0 rfl rfl rfl (show ¬ _ from by decide) dX6_turnsBy_67 (fun H locs hP hD hS => ?_)
    have hP : va_P D zCl (cT k a (tw_s_fact t_11 (upd (tw_fact t_11) 4 ((tw_m t_11) 8)))) H := hP
    have hD : va_D A (cT k a (tw_s_fact t_11 (upd (tw_fact t_11) 4 ((tw_m t_11) 8)))) := hD
    obtain ⟨t_12, et_12⟩ : ∃ z : Tw, z = (tw_s_fact t_11 (upd (tw_fact t_11) 4 ((tw_m t_11) 8))) := ⟨_, rfl⟩
    rw [← et_12] at hP hD
    have hrun := mlt_s hrun t_12 et_12
    refine lv_aload_n hx hb dX6_turnsBy_68 rfl (lv_at hl 0 rfl) ?_
    refine va_get (ci := 0) (v := .ref (a 6)) (C := RX6) (T := TX6) (N := 22) hx hb hts in_X6 hown hK hP 0 rfl rfl 14 (by decide) (hts _ q1916) (fun _ h9 => h9) rfl dX6_turnsBy_69 ?_
    refine lv_iconst (v := (5 : Int32)) hx hb dX6_turnsBy_72 (by decide) ?_
    refine lv_aload_n hx hb dX6_turnsBy_73 rfl (lv_at hl 0 rfl) ?_
    refine va_get (ci := 0) (v := .ref (a 1)) (C := RX6) (T := TX6) (N := 22) hx hb hts in_X6 hown hK hP 0 rfl rfl 1 (by decide) (hts _ q1903) (fun _ h9 => h9) rfl dX6_turnsBy_74 ?_
    refine lv_bipush (v := (16 : Int32)) hx hb dX6_turnsBy_77 (by decide) ?_
    refine lv_aload_n hx hb dX6_turnsBy_79 rfl (lv_at hl 0 rfl) ?_
    refine lv_iload_n hx hb dX6_turnsBy_80 rfl (lv_at hl 1 rfl) ?_
    refine lv_iconst (v := (0 : Int32)) hx hb dX6_turnsBy_81 (by decide) ?_
    obtain ⟨r_14, hc_13, hrun⟩ := mob_s rfl hrun
    refine cRV (As := [.int p1, .int (0 : Int32)]) (ci := 0) ⟨hx, hb, hml, hown, hts⟩ hOK hz hS hP (mtX6_of l D k a Z hOK _ _ _ _ hc_13) (kX6_of hts q2136 rfl rfl ⟨Nat.le_of_ble_eq_true rfl, Nat.le_of_ble_eq_true rfl⟩) 0 rfl rfl rfl hl.1 rfl (lv_room (Nat.le_of_ble_eq_true rfl)) ⟨Nat.le_of_ble_eq_true rfl, Nat.le_of_ble_eq_true rfl⟩ dX6_turnsBy_82 ?_
    refine lv_iadd hx hb dX6_turnsBy_85 ?_
    obtain ⟨hb_15, hrun⟩ := mck_s rfl hrun
    refine va_iald hx hb hK hP 1 0 rfl rfl hb_15 dX6_turnsBy_86 ?_
    obtain ⟨r_17, hc_16, hrun⟩ := mob_s rfl hrun
    refine cRS (ws := []) (As := [.int ((tw_m t_12) (Int32.toNatClampNeg ((16 : Int32) + r_14)))]) ⟨hx, hb, hml, hown, hts⟩ hOK hz hS zP0 (mtX6_bits l D Z hOK _ _ hc_16) (kX6_bits hts q2148 rfl rfl ⟨Nat.le_of_ble_eq_true rfl, Nat.le_of_ble_eq_true rfl⟩) rfl hl.1 rfl (lv_room (Nat.le_of_ble_eq_true rfl)) ⟨Nat.le_of_ble_eq_true rfl, Nat.le_of_ble_eq_true rfl⟩ dX6_turnsBy_87 ?_
    refine va_iastk (k := 5) hx hb hK hP hD hS 6 0 rfl rfl rfl (show ¬ _ from by decide) dX6_turnsBy_90 (fun H locs hP hD hS => ?_)
    have hP : va_P D zCl (cT k a (tw_s_fact t_12 (upd (tw_fact t_12) 5 r_17))) H := hP
    have hD : va_D A (cT k a (tw_s_fact t_12 (upd (tw_fact t_12) 5 r_17))) := hD
    obtain ⟨t_18, et_18⟩ : ∃ z : Tw, z = (tw_s_fact t_12 (upd (tw_fact t_12) 5 r_17)) := ⟨_, rfl⟩
    rw [← et_18] at hP hD
    have hrun := mlt_s hrun t_18 et_18
    refine lv_aload_n hx hb dX6_turnsBy_91 rfl (lv_at hl 0 rfl) ?_
    refine va_get (ci := 0) (v := .ref (a 6)) (C := RX6) (T := TX6) (N := 22) hx hb hts in_X6 hown hK hP 0 rfl rfl 14 (by decide) (hts _ q1916) (fun _ h9 => h9) rfl dX6_turnsBy_92 ?_
    refine lv_bipush (v := (6 : Int32)) hx hb dX6_turnsBy_95 (by decide) ?_
    refine lv_aload_n hx hb dX6_turnsBy_97 rfl (lv_at hl 0 rfl) ?_
    refine va_get (ci := 0) (v := .ref (a 1)) (C := RX6) (T := TX6) (N := 22) hx hb hts in_X6 hown hK hP 0 rfl rfl 1 (by decide) (hts _ q1903) (fun _ h9 => h9) rfl dX6_turnsBy_98 ?_
    refine lv_bipush (v := (10 : Int32)) hx hb dX6_turnsBy_101 (by decide) ?_
    refine va_ialdk (k := 10) hx hb hK hP 1 0 rfl rfl rfl (show ¬ _ from by decide) dX6_turnsBy_103 ?_
    refine lv_bipush (v := (7 : Int32)) hx hb dX6_turnsBy_104 (by decide) ?_
    refine lv_idiv hx hb dX6_turnsBy_106 (by decide) ?_
    refine va_iastk (k := 6) hx hb hK hP hD hS 6 0 rfl rfl rfl (show ¬ _ from by decide) dX6_turnsBy_107 (fun H locs hP hD hS => ?_)
    have hP : va_P D zCl (cT k a (tw_s_fact t_18 (upd (tw_fact t_18) 6 (((tw_m t_18) 10) / (7 : Int32))))) H := hP
    have hD : va_D A (cT k a (tw_s_fact t_18 (upd (tw_fact t_18) 6 (((tw_m t_18) 10) / (7 : Int32))))) := hD
    obtain ⟨t_19, et_19⟩ : ∃ z : Tw, z = (tw_s_fact t_18 (upd (tw_fact t_18) 6 (((tw_m t_18) 10) / (7 : Int32)))) := ⟨_, rfl⟩
    rw [← et_19] at hP hD
    have hrun := mlt_s hrun t_19 et_19
    refine lv_aload_n hx hb dX6_turnsBy_108 rfl (lv_at hl 0 rfl) ?_
    refine lv_aload_n hx hb dX6_turnsBy_109 rfl (lv_at hl 0 rfl) ?_
    refine lv_iload_n hx hb dX6_turnsBy_110 rfl (lv_at hl 1 rfl) ?_
    refine lv_iconst (v := (3 : Int32)) hx hb dX6_turnsBy_111 (by decide) ?_
    obtain ⟨r_21, hc_20, hrun⟩ := mob_s rfl hrun
    refine cRV (As := [.int p1, .int (3 : Int32)]) (ci := 0) ⟨hx, hb, hml, hown, hts⟩ hOK hz hS hP (mtX6_of l D k a Z hOK _ _ _ _ hc_20) (kX6_of hts q2136 rfl rfl ⟨Nat.le_of_ble_eq_true rfl, Nat.le_of_ble_eq_true rfl⟩) 0 rfl rfl rfl hl.1 rfl (lv_room (Nat.le_of_ble_eq_true rfl)) ⟨Nat.le_of_ble_eq_true rfl, Nat.le_of_ble_eq_true rfl⟩ dX6_turnsBy_112 ?_
    refine lv_iconst (v := (1 : Int32)) hx hb dX6_turnsBy_115 (by decide) ?_
    obtain ⟨K_25, hK_25, hrun⟩ := mjn_s hrun
    have hj_23 : ∀ (y_24 : Bool), ∀ (H : Heap) (locs : List Loc), va_P D zCl (cT k a t_19) H → va_D A (cT k a t_19) → va_S A s.heap H locs → ∀ ls : Array Slot, lv_has ls 4 [(0, .ref (a 0))] → K_25 y_24 = some (r, tt) → W p l e rX6_turnsBy s m args below meth c H locs 0 0 (MQ below (QWr (fun r' w' => r' = (some (.int r)) ∧ w' = cT k a tt) D zCl A) args s 0 0 A) (F0 m 124 ls [.int (bz y_24), .ref (a 0)]) := by
      intro y_24 H locs hP hD hS ls hl hrun
      rw [hK_25] at hrun
      refine va_put (ci := 0) (v := .int (bz y_24)) (ty := tyX6 15) (C := RX6) (T := TX6) (N := 22) hx hb hts in_X6 tyX6 tyX6_ok nmX6 hown hK hP hD hS 0 rfl rfl 15 (by decide) (hts _ q1917) (fun _ h9 => h9) rfl (tyX6_ok 15 (by decide)) (bz_nar _) (bz_fit _) (Nat.le_of_ble_eq_true rfl) dX6_turnsBy_124 (fun H locs hP hD hS => ?_)
      have hP : va_P D zCl (cT k a (tw_s_hasKey t_19 y_24)) H := hP
      have hD : va_D A (cT k a (tw_s_hasKey t_19 y_24)) := hD
      obtain ⟨t_26, et_26⟩ : ∃ z : Tw, z = (tw_s_hasKey t_19 y_24) := ⟨_, rfl⟩
      rw [← et_26] at hP hD
      have hrun := mlt_s hrun t_26 et_26
      refine lv_aload_n hx hb dX6_turnsBy_127 rfl (lv_at hl 0 rfl) ?_
      refine lv_aload_n hx hb dX6_turnsBy_128 rfl (lv_at hl 0 rfl) ?_
      refine lv_aload_n hx hb dX6_turnsBy_129 rfl (lv_at hl 0 rfl) ?_
      refine va_get (ci := 0) (v := .ref (a 1)) (C := RX6) (T := TX6) (N := 22) hx hb hts in_X6 hown hK hP 0 rfl rfl 1 (by decide) (hts _ q1903) (fun _ h9 => h9) rfl dX6_turnsBy_130 ?_
      refine lv_iconst (v := (5 : Int32)) hx hb dX6_turnsBy_133 (by decide) ?_
      refine va_ialdk (k := 5) hx hb hK hP 1 0 rfl rfl rfl (show ¬ _ from by decide) dX6_turnsBy_134 ?_
      refine lv_aload_n hx hb dX6_turnsBy_135 rfl (lv_at hl 0 rfl) ?_
      refine va_get (ci := 0) (v := .ref (a 1)) (C := RX6) (T := TX6) (N := 22) hx hb hts in_X6 hown hK hP 0 rfl rfl 1 (by decide) (hts _ q1903) (fun _ h9 => h9) rfl dX6_turnsBy_136 ?_
      refine lv_bipush (v := (10 : Int32)) hx hb dX6_turnsBy_139 (by decide) ?_
      refine va_ialdk (k := 10) hx hb hK hP 1 0 rfl rfl rfl (show ¬ _ from by decide) dX6_turnsBy_141 ?_
      refine lv_iconst (v := (1 : Int32)) hx hb dX6_turnsBy_142 (by decide) ?_
      refine lv_iadd hx hb dX6_turnsBy_143 ?_
      obtain ⟨r_28, hc_27, hrun⟩ := mob_s rfl hrun
      refine cRV (As := [.int ((tw_m t_26) 5), .int (((tw_m t_26) 10) + (1 : Int32))]) (ci := 0) ⟨hx, hb, hml, hown, hts⟩ hOK hz hS hP (mtX6_isSaturday l D k a Z hOK _ _ _ _ hc_27) (kX6_isSaturday hts q2151 rfl rfl ⟨Nat.le_of_ble_eq_true rfl, Nat.le_of_ble_eq_true rfl⟩) 0 rfl rfl rfl hl.1 rfl (lv_room (Nat.le_of_ble_eq_true rfl)) ⟨Nat.le_of_ble_eq_true rfl, Nat.le_of_ble_eq_true rfl⟩ dX6_turnsBy_144 ?_
      refine va_put (ci := 0) (v := .int (bz r_28)) (ty := tyX6 16) (C := RX6) (T := TX6) (N := 22) hx hb hts in_X6 tyX6 tyX6_ok nmX6 hown hK hP hD hS 0 rfl rfl 16 (by decide) (hts _ q1918) (fun _ h9 => h9) rfl (tyX6_ok 16 (by decide)) (bz_nar _) (bz_fit _) (Nat.le_of_ble_eq_true rfl) dX6_turnsBy_147 (fun H locs hP hD hS => ?_)
      have hP : va_P D zCl (cT k a (tw_s_isEve t_26 r_28)) H := hP
      have hD : va_D A (cT k a (tw_s_isEve t_26 r_28)) := hD
      obtain ⟨t_29, et_29⟩ : ∃ z : Tw, z = (tw_s_isEve t_26 r_28) := ⟨_, rfl⟩
      rw [← et_29] at hP hD
      have hrun := mlt_s hrun t_29 et_29
      refine lv_aload_n hx hb dX6_turnsBy_150 rfl (lv_at hl 0 rfl) ?_
      refine lv_iconst (v := (0 : Int32)) hx hb dX6_turnsBy_151 (by decide) ?_
      refine va_put (ci := 0) (v := .int (0 : Int32)) (ty := tyX6 17) (C := RX6) (T := TX6) (N := 22) hx hb hts in_X6 tyX6 tyX6_ok nmX6 hown hK hP hD hS 0 rfl rfl 17 (by decide) (hts _ q1919) (fun _ h9 => h9) rfl (tyX6_ok 17 (by decide)) rfl rfl (Nat.le_of_ble_eq_true rfl) dX6_turnsBy_152 (fun H locs hP hD hS => ?_)
      have hP : va_P D zCl (cT k a (tw_s_turns t_29 (0 : Int32))) H := hP
      have hD : va_D A (cT k a (tw_s_turns t_29 (0 : Int32))) := hD
      obtain ⟨t_30, et_30⟩ : ∃ z : Tw, z = (tw_s_turns t_29 (0 : Int32)) := ⟨_, rfl⟩
      rw [← et_30] at hP hD
      have hrun := mlt_s hrun t_30 et_30
      refine lv_aload_n hx hb dX6_turnsBy_155 rfl (lv_at hl 0 rfl) ?_
      refine va_get (ci := 0) (v := .int (tw_fault t_30)) (C := RX6) (T := TX6) (N := 22) hx hb hts in_X6 hown hK hP 0 rfl rfl 12 (by decide) (hts _ q1914) (fun _ h9 => h9) rfl dX6_turnsBy_156 ?_
      refine lv_istore_n (lv' := [(2, .int (tw_fault t_30)), (0, .ref (a 0))]) hx hb dX6_turnsBy_159 rfl hl (by decide) rfl (fun ls hl => ?_)
      refine lv_aload_n hx hb dX6_turnsBy_160 rfl (lv_at hl 1 rfl) ?_
      refine lv_iconst (v := (-1 : Int32)) hx hb dX6_turnsBy_161 (by decide) ?_
      refine va_put (ci := 0) (v := .int (-1 : Int32)) (ty := tyX6 12) (C := RX6) (T := TX6) (N := 22) hx hb hts in_X6 tyX6 tyX6_ok nmX6 hown hK hP hD hS 0 rfl rfl 12 (by decide) (hts _ q1914) (fun _ h9 => h9) rfl (tyX6_ok 12 (by decide)) rfl rfl (Nat.le_of_ble_eq_true rfl) dX6_turnsBy_162 (fun H locs hP hD hS => ?_)
      have hP : va_P D zCl (cT k a (tw_s_fault t_30 (-1 : Int32))) H := hP
      have hD : va_D A (cT k a (tw_s_fault t_30 (-1 : Int32))) := hD
      obtain ⟨t_31, et_31⟩ : ∃ z : Tw, z = (tw_s_fault t_30 (-1 : Int32)) := ⟨_, rfl⟩
      rw [← et_31] at hP hD
      have hrun := mlt_s hrun t_31 et_31
      refine lv_aload_n hx hb dX6_turnsBy_165 rfl (lv_at hl 1 rfl) ?_
      refine lv_sipush (v := (304 : Int32)) hx hb dX6_turnsBy_166 (by decide) ?_
      refine va_put (ci := 0) (v := .int (304 : Int32)) (ty := tyX6 9) (C := RX6) (T := TX6) (N := 22) hx hb hts in_X6 tyX6 tyX6_ok nmX6 hown hK hP hD hS 0 rfl rfl 9 (by decide) (hts _ q1911) (fun _ h9 => h9) rfl (tyX6_ok 9 (by decide)) rfl rfl (Nat.le_of_ble_eq_true rfl) dX6_turnsBy_169 (fun H locs hP hD hS => ?_)
      have hP : va_P D zCl (cT k a (tw_s_base t_31 (304 : Int32))) H := hP
      have hD : va_D A (cT k a (tw_s_base t_31 (304 : Int32))) := hD
      obtain ⟨t_32, et_32⟩ : ∃ z : Tw, z = (tw_s_base t_31 (304 : Int32)) := ⟨_, rfl⟩
      rw [← et_32] at hP hD
      have hrun := mlt_s hrun t_32 et_32
      refine lv_aload_n hx hb dX6_turnsBy_172 rfl (lv_at hl 1 rfl) ?_
      refine lv_aload_n hx hb dX6_turnsBy_173 rfl (lv_at hl 1 rfl) ?_
      refine va_get (ci := 0) (v := .ref (a 1)) (C := RX6) (T := TX6) (N := 22) hx hb hts in_X6 hown hK hP 0 rfl rfl 1 (by decide) (hts _ q1903) (fun _ h9 => h9) rfl dX6_turnsBy_174 ?_
      refine lv_iconst (v := (2 : Int32)) hx hb dX6_turnsBy_177 (by decide) ?_
      refine va_ialdk (k := 2) hx hb hK hP 1 0 rfl rfl rfl (show ¬ _ from by decide) dX6_turnsBy_178 ?_
      refine va_put (ci := 0) (v := .int ((tw_m t_32) 2)) (ty := tyX6 10) (C := RX6) (T := TX6) (N := 22) hx hb hts in_X6 tyX6 tyX6_ok nmX6 hown hK hP hD hS 0 rfl rfl 10 (by decide) (hts _ q1912) (fun _ h9 => h9) rfl (tyX6_ok 10 (by decide)) rfl rfl (Nat.le_of_ble_eq_true rfl) dX6_turnsBy_179 (fun H locs hP hD hS => ?_)
      have hP : va_P D zCl (cT k a (tw_s_end_ t_32 ((tw_m t_32) 2))) H := hP
      have hD : va_D A (cT k a (tw_s_end_ t_32 ((tw_m t_32) 2))) := hD
      obtain ⟨t_33, et_33⟩ : ∃ z : Tw, z = (tw_s_end_ t_32 ((tw_m t_32) 2)) := ⟨_, rfl⟩
      rw [← et_33] at hP hD
      have hrun := mlt_s hrun t_33 et_33
      refine lv_aload_n hx hb dX6_turnsBy_182 rfl (lv_at hl 1 rfl) ?_
      refine lv_iconst (v := (0 : Int32)) hx hb dX6_turnsBy_183 (by decide) ?_
      refine va_put (ci := 0) (v := .int (0 : Int32)) (ty := tyX6 11) (C := RX6) (T := TX6) (N := 22) hx hb hts in_X6 tyX6 tyX6_ok nmX6 hown hK hP hD hS 0 rfl rfl 11 (by decide) (hts _ q1913) (fun _ h9 => h9) rfl (tyX6_ok 11 (by decide)) rfl rfl (Nat.le_of_ble_eq_true rfl) dX6_turnsBy_184 (fun H locs hP hD hS => ?_)
      have hP : va_P D zCl (cT k a (tw_s_at_ t_33 (0 : Int32))) H := hP
      have hD : va_D A (cT k a (tw_s_at_ t_33 (0 : Int32))) := hD
      obtain ⟨t_34, et_34⟩ : ∃ z : Tw, z = (tw_s_at_ t_33 (0 : Int32)) := ⟨_, rfl⟩
      rw [← et_34] at hP hD
      have hrun := mlt_s hrun t_34 et_34
      refine lv_aload_n hx hb dX6_turnsBy_187 rfl (lv_at hl 1 rfl) ?_
      refine lv_iconst (v := (0 : Int32)) hx hb dX6_turnsBy_188 (by decide) ?_
      refine va_put (ci := 0) (v := .int (0 : Int32)) (ty := tyX6 13) (C := RX6) (T := TX6) (N := 22) hx hb hts in_X6 tyX6 tyX6_ok nmX6 hown hK hP hD hS 0 rfl rfl 13 (by decide) (hts _ q1915) (fun _ h9 => h9) rfl (tyX6_ok 13 (by decide)) rfl rfl (Nat.le_of_ble_eq_true rfl) dX6_turnsBy_189 (fun H locs hP hD hS => ?_)
      have hP : va_P D zCl (cT k a (tw_s_deep t_34 (0 : Int32))) H := hP
      have hD : va_D A (cT k a (tw_s_deep t_34 (0 : Int32))) := hD
      obtain ⟨t_35, et_35⟩ : ∃ z : Tw, z = (tw_s_deep t_34 (0 : Int32)) := ⟨_, rfl⟩
      rw [← et_35] at hP hD
      have hrun := mlt_s hrun t_35 et_35
      refine lv_aload_n hx hb dX6_turnsBy_192 rfl (lv_at hl 1 rfl) ?_
      refine lv_iconst (v := (1 : Int32)) hx hb dX6_turnsBy_193 (by decide) ?_
      obtain ⟨r_38, t_37, hc_36, hrun⟩ := mo2_s rfl hrun
      refine cWV00 (As := [.int (bz true)]) (ci := 0) ⟨hx, hb, hml, hown, hts⟩ hOK hz hS hA hP hD (mtX6_read l D k a Z hOK hStr _ _ _ _ hc_36) (kX6_read hts q1996 rfl rfl ⟨Nat.le_of_ble_eq_true rfl, Nat.le_of_ble_eq_true rfl⟩) 0 rfl rfl rfl hl.1 rfl (lv_room (Nat.le_of_ble_eq_true rfl)) ⟨Nat.le_of_ble_eq_true rfl, Nat.le_of_ble_eq_true rfl⟩ dX6_turnsBy_194 (fun r_ w_ H locs hq hP hD hS => ?_)
      obtain ⟨rfl, rfl⟩ := hq
      refine lv_istore_n (lv' := [(3, .int r_38), (2, .int (tw_fault t_30)), (0, .ref (a 0))]) hx hb dX6_turnsBy_197 rfl hl (by decide) rfl (fun ls hl => ?_)
      refine lv_aload_n hx hb dX6_turnsBy_198 rfl (lv_at hl 2 rfl) ?_
      refine lv_iload_n hx hb dX6_turnsBy_199 rfl (lv_at hl 1 rfl) ?_
      refine va_put (ci := 0) (v := .int (tw_fault t_30)) (ty := tyX6 12) (C := RX6) (T := TX6) (N := 22) hx hb hts in_X6 tyX6 tyX6_ok nmX6 hown hK hP hD hS 0 rfl rfl 12 (by decide) (hts _ q1914) (fun _ h9 => h9) rfl (tyX6_ok 12 (by decide)) rfl rfl (Nat.le_of_ble_eq_true rfl) dX6_turnsBy_200 (fun H locs hP hD hS => ?_)
      have hP : va_P D zCl (cT k a (tw_s_fault t_37 (tw_fault t_30))) H := hP
      have hD : va_D A (cT k a (tw_s_fault t_37 (tw_fault t_30))) := hD
      obtain ⟨t_39, et_39⟩ : ∃ z : Tw, z = (tw_s_fault t_37 (tw_fault t_30)) := ⟨_, rfl⟩
      rw [← et_39] at hP hD
      have hrun := mlt_s hrun t_39 et_39
      refine lv_aload_n hx hb dX6_turnsBy_203 rfl (lv_at hl 2 rfl) ?_
      refine va_get (ci := 0) (v := .int (tw_turns t_39)) (C := RX6) (T := TX6) (N := 22) hx hb hts in_X6 hown hK hP 0 rfl rfl 17 (by decide) (hts _ q1919) (fun _ h9 => h9) rfl dX6_turnsBy_204 ?_
      cases hrun
      exact retW_i hx hb hr hlocks hP hD hS ⟨rfl, rfl⟩ dX6_turnsBy_207
    refine lv_icmp_ne (tgt := 123) hx hb dX6_turnsBy_116 (by decide) (fun c_22 => ?_) (fun c_22 => ?_)
    · have hrun := mif_n c_22 hrun
      refine lv_iconst (v := (0 : Int32)) hx hb dX6_turnsBy_123 (by decide) ?_
      exact hj_23 false _ _ hP hD hS ls (lv_sub hl [0] rfl) hrun
    have hrun := mif_p c_22 hrun
    refine lv_iconst (v := (1 : Int32)) hx hb dX6_turnsBy_119 (by decide) ?_
    refine lv_goto (tgt := 124) hx hb dX6_turnsBy_120 (by decide) ?_
    exact hj_23 true _ _ hP hD hS ls (lv_sub hl [0] rfl) hrun
  have hrun := mif_p c_1 hrun
  refine lv_iconst (v := (1 : Int32)) hx hb dX6_turnsBy_10 (by decide) ?_
  cases hrun
  exact retW_i hx hb hr hlocks hP hD hS ⟨rfl, rfl⟩ dX6_turnsBy_11
def rX6_goes : Room := { frames := 39, cells := 0, slots := 0, locals := 1054 }
noncomputable def fX6_goes_L119 (K_17 : Tw → Option (Int32 × Tw)) (y_13 : Int32) : Nat → Int32 → Tw → Option (Int32 × Tw)
  | 0, _, _ => none
  | n + 1, x6_38, t_39 =>
    if ((tw_m t_39) 3) ≤ x6_38 then
      K_17 t_39
    else
      mob (fX6_isOf y_13 x6_38) fun r_42 =>
      if r_42 = true then
        mo2 (fX6_draw t_39 (10 : Int32)) fun r_46 t_45 =>
        mob (fX6_risk t_45 x6_38) fun r_48 =>
        if r_48 ≤ r_46 then
          fX6_goes_L119 K_17 y_13 n (x6_38 + (1 : Int32)) t_45
        else
          mob (fX6_looks t_45 x6_38) fun t_51 =>
          fX6_goes_L119 K_17 y_13 n (x6_38 + (1 : Int32)) t_51
      else
        fX6_goes_L119 K_17 y_13 n (x6_38 + (1 : Int32)) t_39
noncomputable def fX6_goes_L20 (K_10 : Tw → Option (Int32 × Tw)) : Nat → Int32 → Tw → Option (Int32 × Tw)
  | 0, _, _ => none
  | n + 1, x5_59, t_60 =>
    if ((tw_m t_60) 3) ≤ x5_59 then
      K_10 t_60
    else
      mob (fX6_isHere t_60 x5_59) fun r_63 =>
      if r_63 = true then
        mob (fX6_of t_60 x5_59 (2 : Int32)) fun r_66 =>
        mo2 (fX6_turnsBy t_60 x5_59) fun r_69 t_68 =>
        mob (fX6_lesser (99 : Int32) (r_66 + r_69)) fun r_71 =>
        mob (fX6_greater (0 : Int32) r_71) fun r_73 =>
        mob (fX6_put t_68 x5_59 (2 : Int32) r_73) fun t_75 =>
        fX6_goes_L20 K_10 n (x5_59 + (1 : Int32)) t_75
      else
        fX6_goes_L20 K_10 n (x5_59 + (1 : Int32)) t_60
noncomputable def fX6_goes_L11 (p1 : Int32) (K_3 : Tw → Option (Int32 × Tw)) (p2 : Bool) : Nat → Int32 → Tw → Option (Int32 × Tw)
  | 0, _, _ => none
  | n + 1, x4_5, t_6 =>
    if p1 ≤ x4_5 then
      K_3 t_6
    else
      mjn (fun (t_9 : Tw) =>
      mjn (fun (y_13 : Int32) =>
      mjn (fun (t_16 : Tw) =>
      mob (fX6_builds t_16) fun t_19 =>
      mjn (fun (t_22 : Tw) =>
      mob (fX6_lesser (9999 : Int32) (((tw_m t_22) 10) + (1 : Int32))) fun r_25 =>
      mlt (tw_s_m t_22 (upd (tw_m t_22) 10 r_25)) fun t_26 =>
      fX6_goes_L11 p1 K_3 p2 n (x4_5 + (1 : Int32)) t_26) fun K_23 =>
      if p2 = true then
        mo2 (fX6_draw t_19 (100 : Int32)) fun r_29 t_28 =>
        if ((tw_m t_28) 9) ≤ r_29 then
          K_23 t_28
        else
          mo2 (fX6_draw t_28 (8 : Int32)) fun r_33 t_32 =>
          mck ((16 : Int32) + r_33) 704 <|
          mck ((16 : Int32) + r_33) 704 <|
          mlt (tw_s_m t_32 (upd (tw_m t_32) (Int32.toNatClampNeg ((16 : Int32) + r_33)) (((tw_m t_32) (Int32.toNatClampNeg ((16 : Int32) + r_33))) ||| ((1 : Int32) <<< ((mrm (r_33 + (1 : Int32)) (8 : Int32)) &&& (31 : Int32)))))) fun t_36 =>
          K_23 t_36
      else
        K_23 t_19) fun K_17 =>
      fX6_goes_L119 K_17 y_13 mFU (0 : Int32) t_9) fun K_14 =>
      if p2 = true then
        mob (fX6_isSaturday t_9 ((tw_m t_9) 5) ((tw_m t_9) 10)) fun r_54 =>
        if r_54 = true then
          mob (fX6_watchers t_9 ((tw_m t_9) 4)) fun r_57 =>
          K_14 r_57
        else
          K_14 (0 : Int32)
      else
        K_14 (0 : Int32)) fun K_10 =>
      fX6_goes_L20 K_10 mFU (0 : Int32) t_6
noncomputable def fX6_goes (t : Tw) (p1 : Int32) (p2 : Bool) : Option (Int32 × Tw) :=
  mjn (fun (t_2 : Tw) =>
  some ((((tw_m t_2) 11) - ((tw_m t) 11)), t_2)) fun K_3 =>
  fX6_goes_L11 p1 K_3 p2 mFU (0 : Int32) t
theorem kX6_goes {R : Room} {s : State} {args : Array Value} {own : String} {idx mc ms : Nat} {rm : Room} (hts : ∀ w ∈ lw_all, w.before args s = true) (hl : Cond.methodLink own idx yX6_goes ∈ lw_all) (hrc : rm.cells = mc) (hrs : rm.slots = ms) (hR : rm.frames + 1 ≤ R.frames ∧ 8 + (7 + 11) + rm.locals ≤ R.locals) : CallW R s args own RX6 idx yX6_goes cX6_goes 7 (some .int) (ws_ yX6_goes cX6_goes 7 (some .int)) rm mc ms 2 :=
  cwV 2 hts (lw_V hl q2258 qs88 q115 q2259) rfl hrc hrs (by decide +kernel) hR
set_option maxHeartbeats 4000000 in
set_option maxRecDepth 100000 in
theorem mtX6_goes (l : Launch) (D : va_G) (k : Nat → ClassId) (a : Nat → Nat) (Z : zZ) (hOK : zOK D zCl (zTys k) Z) {adK adV : Nat → Nat} (hStr : zStr Z adK adV) (t : Tw) (p1 : Int32) (p2 : Bool) (r : Int32) (tt : Tw) (hrun : fX6_goes t p1 p2 = some (r, tt)) :
    CtW l yX6_goes cX6_goes 7 (some .int) rX6_goes Z D zCl (cT k a t) [.ref (a 0), .int p1, .int (bz p2)] (fun r' w' => r' = (some (.int r)) ∧ w' = cT k a tt) 0 0 := by
  refine CtW.of (by decide) (Nat.le_of_ble_eq_true rfl) ?_
  intro p e s m args below meth c A hE hA hP hD hS hz ls hl
  obtain ⟨hx, hb, hr, hml, hown, hts, hlocks, hname⟩ := hE
  have hown : s.vm.findClass RX6 = some m.cls := hown
  have hK := hOK.1 _ _ _ hz
  have hl : lv_has ls 7 [(0, .ref (a 0)), (1, .int p1), (2, .int (bz p2))] := hl
  unfold fX6_goes at hrun
  refine lv_aload_n hx hb dX6_goes_0 rfl (lv_at hl 0 rfl) ?_
  refine va_get (ci := 0) (v := .ref (a 1)) (C := RX6) (T := TX6) (N := 22) hx hb hts in_X6 hown hK hP 0 rfl rfl 1 (by decide) (hts _ q1903) (fun _ h9 => h9) rfl dX6_goes_1 ?_
  refine lv_bipush (v := (11 : Int32)) hx hb dX6_goes_4 (by decide) ?_
  refine va_ialdk (k := 11) hx hb hK hP 1 0 rfl rfl rfl (show ¬ _ from by decide) dX6_goes_6 ?_
  refine lv_istore_n (lv' := [(3, .int ((tw_m t) 11)), (0, .ref (a 0)), (1, .int p1), (2, .int (bz p2))]) hx hb dX6_goes_7 rfl hl (by decide) rfl (fun ls hl => ?_)
  refine lv_iconst (v := (0 : Int32)) hx hb dX6_goes_8 (by decide) ?_
  refine lv_istore (lv' := [(4, .int (0 : Int32)), (3, .int ((tw_m t) 11)), (0, .ref (a 0)), (1, .int p1), (2, .int (bz p2))]) hx hb dX6_goes_9 hl (by decide) rfl (fun ls hl => ?_)
  obtain ⟨K_3, hK_3, hrun⟩ := mjn_s hrun
  have hj_1 : ∀ (t_2 : Tw), ∀ (H : Heap) (locs : List Loc), va_P D zCl (cT k a t_2) H → va_D A (cT k a t_2) → va_S A s.heap H locs → ∀ ls : Array Slot, lv_has ls 7 [(0, .ref (a 0)), (3, .int ((tw_m t) 11))] → K_3 t_2 = some (r, tt) → W p l e rX6_goes s m args below meth c H locs 0 0 (MQ below (QWr (fun r' w' => r' = (some (.int r)) ∧ w' = cT k a tt) D zCl A) args s 0 0 A) (F0 m 249 ls []) := by
    intro t_2 H locs hP hD hS ls hl hrun
    rw [hK_3] at hrun
    refine lv_aload_n hx hb dX6_goes_249 rfl (lv_at hl 0 rfl) ?_
    refine va_get (ci := 0) (v := .ref (a 1)) (C := RX6) (T := TX6) (N := 22) hx hb hts in_X6 hown hK hP 0 rfl rfl 1 (by decide) (hts _ q1903) (fun _ h9 => h9) rfl dX6_goes_250 ?_
    refine lv_bipush (v := (11 : Int32)) hx hb dX6_goes_253 (by decide) ?_
    refine va_ialdk (k := 11) hx hb hK hP 1 0 rfl rfl rfl (show ¬ _ from by decide) dX6_goes_255 ?_
    refine lv_iload_n hx hb dX6_goes_256 rfl (lv_at hl 1 rfl) ?_
    refine lv_isub hx hb dX6_goes_257 ?_
    cases hrun
    exact retW_i hx hb hr hlocks hP hD hS ⟨rfl, rfl⟩ dX6_goes_258
  have hL_4 : ∀ n : Nat, ∀ (x4_5 : Int32) (t_6 : Tw), ∀ (H : Heap) (locs : List Loc), va_P D zCl (cT k a t_6) H → va_D A (cT k a t_6) → va_S A s.heap H locs → ∀ ls : Array Slot, lv_has ls 7 [(0, .ref (a 0)), (1, .int p1), (2, .int (bz p2)), (3, .int ((tw_m t) 11)), (4, .int x4_5)] → fX6_goes_L11 p1 K_3 p2 n x4_5 t_6 = some (r, tt) → W p l e rX6_goes s m args below meth c H locs 0 0 (MQ below (QWr (fun r' w' => r' = (some (.int r)) ∧ w' = cT k a tt) D zCl A) args s 0 0 A) (F0 m 11 ls []) := by
    intro n
    induction n with
    | zero =>
      intro x4_5 t_6 H locs hP hD hS ls hl hrun
      exact nomatch hrun
    | succ n ih =>
      intro x4_5 t_6 H locs hP hD hS ls hl hrun
      rw [fX6_goes_L11.eq_2] at hrun
      refine lv_iload hx hb dX6_goes_11 (lv_at hl 4 rfl) ?_
      refine lv_iload_n hx hb dX6_goes_13 rfl (lv_at hl 1 rfl) ?_
      refine lv_icmp_ge (tgt := 249) hx hb dX6_goes_14 (by decide) (fun c_7 => ?_) (fun c_7 => ?_)
      · have hrun := mif_p c_7 hrun
        exact hj_1 t_6 _ _ hP hD hS ls (lv_sub hl [0, 3] rfl) hrun
      have hrun := mif_n c_7 hrun
      refine lv_iconst (v := (0 : Int32)) hx hb dX6_goes_17 (by decide) ?_
      refine lv_istore (lv' := [(5, .int (0 : Int32)), (0, .ref (a 0)), (1, .int p1), (2, .int (bz p2)), (3, .int ((tw_m t) 11)), (4, .int x4_5)]) hx hb dX6_goes_18 hl (by decide) rfl (fun ls hl => ?_)
      obtain ⟨K_10, hK_10, hrun⟩ := mjn_s hrun
      have hj_8 : ∀ (t_9 : Tw), ∀ (H : Heap) (locs : List Loc), va_P D zCl (cT k a t_9) H → va_D A (cT k a t_9) → va_S A s.heap H locs → ∀ ls : Array Slot, lv_has ls 7 [(0, .ref (a 0)), (1, .int p1), (2, .int (bz p2)), (3, .int ((tw_m t) 11)), (4, .int x4_5)] → K_10 t_9 = some (r, tt) → W p l e rX6_goes s m args below meth c H locs 0 0 (MQ below (QWr (fun r' w' => r' = (some (.int r)) ∧ w' = cT k a tt) D zCl A) args s 0 0 A) (F0 m 76 ls []) := by
        intro t_9 H locs hP hD hS ls hl hrun
        rw [hK_10] at hrun
        refine lv_iload_n hx hb dX6_goes_76 rfl (lv_at hl 2 rfl) ?_
        obtain ⟨K_14, hK_14, hrun⟩ := mjn_s hrun
        have hj_12 : ∀ (y_13 : Int32), ∀ (H : Heap) (locs : List Loc), va_P D zCl (cT k a t_9) H → va_D A (cT k a t_9) → va_S A s.heap H locs → ∀ ls : Array Slot, lv_has ls 7 [(0, .ref (a 0)), (1, .int p1), (2, .int (bz p2)), (3, .int ((tw_m t) 11)), (4, .int x4_5)] → K_14 y_13 = some (r, tt) → W p l e rX6_goes s m args below meth c H locs 0 0 (MQ below (QWr (fun r' w' => r' = (some (.int r)) ∧ w' = cT k a tt) D zCl A) args s 0 0 A) (F0 m 114 ls [.int y_13]) := by
          intro y_13 H locs hP hD hS ls hl hrun
          rw [hK_14] at hrun
          refine lv_istore (lv' := [(5, .int y_13), (0, .ref (a 0)), (1, .int p1), (2, .int (bz p2)), (3, .int ((tw_m t) 11)), (4, .int x4_5)]) hx hb dX6_goes_114 hl (by decide) rfl (fun ls hl => ?_)
          refine lv_iconst (v := (0 : Int32)) hx hb dX6_goes_116 (by decide) ?_
          refine lv_istore (lv' := [(6, .int (0 : Int32)), (5, .int y_13), (0, .ref (a 0)), (1, .int p1), (2, .int (bz p2)), (3, .int ((tw_m t) 11)), (4, .int x4_5)]) hx hb dX6_goes_117 hl (by decide) rfl (fun ls hl => ?_)
          obtain ⟨K_17, hK_17, hrun⟩ := mjn_s hrun
          have hj_15 : ∀ (t_16 : Tw), ∀ (H : Heap) (locs : List Loc), va_P D zCl (cT k a t_16) H → va_D A (cT k a t_16) → va_S A s.heap H locs → ∀ ls : Array Slot, lv_has ls 7 [(0, .ref (a 0)), (1, .int p1), (2, .int (bz p2)), (3, .int ((tw_m t) 11)), (4, .int x4_5)] → K_17 t_16 = some (r, tt) → W p l e rX6_goes s m args below meth c H locs 0 0 (MQ below (QWr (fun r' w' => r' = (some (.int r)) ∧ w' = cT k a tt) D zCl A) args s 0 0 A) (F0 m 167 ls []) := by
            intro t_16 H locs hP hD hS ls hl hrun
            rw [hK_17] at hrun
            refine lv_aload_n hx hb dX6_goes_167 rfl (lv_at hl 0 rfl) ?_
            obtain ⟨t_19, hc_18, hrun⟩ := mob_s rfl hrun
            refine cWV00 (As := []) (ci := 0) ⟨hx, hb, hml, hown, hts⟩ hOK hz hS hA hP hD (mtX6_builds l D k a Z hOK _ _ hc_18) (kX6_builds hts q2272 rfl rfl ⟨Nat.le_of_ble_eq_true rfl, Nat.le_of_ble_eq_true rfl⟩) 0 rfl rfl rfl hl.1 rfl (lv_room (Nat.le_of_ble_eq_true rfl)) ⟨Nat.le_of_ble_eq_true rfl, Nat.le_of_ble_eq_true rfl⟩ dX6_goes_168 (fun r_ w_ H locs hq hP hD hS => ?_)
            obtain ⟨rfl, rfl⟩ := hq
            refine lv_iload_n hx hb dX6_goes_171 rfl (lv_at hl 2 rfl) ?_
            obtain ⟨K_23, hK_23, hrun⟩ := mjn_s hrun
            have hj_21 : ∀ (t_22 : Tw), ∀ (H : Heap) (locs : List Loc), va_P D zCl (cT k a t_22) H → va_D A (cT k a t_22) → va_S A s.heap H locs → ∀ ls : Array Slot, lv_has ls 7 [(0, .ref (a 0)), (1, .int p1), (2, .int (bz p2)), (3, .int ((tw_m t) 11)), (4, .int x4_5)] → K_23 t_22 = some (r, tt) → W p l e rX6_goes s m args below meth c H locs 0 0 (MQ below (QWr (fun r' w' => r' = (some (.int r)) ∧ w' = cT k a tt) D zCl A) args s 0 0 A) (F0 m 221 ls []) := by
              intro t_22 H locs hP hD hS ls hl hrun
              rw [hK_23] at hrun
              refine lv_aload_n hx hb dX6_goes_221 rfl (lv_at hl 0 rfl) ?_
              refine va_get (ci := 0) (v := .ref (a 1)) (C := RX6) (T := TX6) (N := 22) hx hb hts in_X6 hown hK hP 0 rfl rfl 1 (by decide) (hts _ q1903) (fun _ h9 => h9) rfl dX6_goes_222 ?_
              refine lv_bipush (v := (10 : Int32)) hx hb dX6_goes_225 (by decide) ?_
              refine lv_sipush (v := (9999 : Int32)) hx hb dX6_goes_227 (by decide) ?_
              refine lv_aload_n hx hb dX6_goes_230 rfl (lv_at hl 0 rfl) ?_
              refine va_get (ci := 0) (v := .ref (a 1)) (C := RX6) (T := TX6) (N := 22) hx hb hts in_X6 hown hK hP 0 rfl rfl 1 (by decide) (hts _ q1903) (fun _ h9 => h9) rfl dX6_goes_231 ?_
              refine lv_bipush (v := (10 : Int32)) hx hb dX6_goes_234 (by decide) ?_
              refine va_ialdk (k := 10) hx hb hK hP 1 0 rfl rfl rfl (show ¬ _ from by decide) dX6_goes_236 ?_
              refine lv_iconst (v := (1 : Int32)) hx hb dX6_goes_237 (by decide) ?_
              refine lv_iadd hx hb dX6_goes_238 ?_
              obtain ⟨r_25, hc_24, hrun⟩ := mob_s rfl hrun
              refine cRS (ws := []) (As := [.int (9999 : Int32), .int (((tw_m t_22) 10) + (1 : Int32))]) ⟨hx, hb, hml, hown, hts⟩ hOK hz hS zP0 (mtX6_lesser l D Z hOK _ _ _ hc_24) (kX6_lesser hts q2245 rfl rfl ⟨Nat.le_of_ble_eq_true rfl, Nat.le_of_ble_eq_true rfl⟩) rfl hl.1 rfl (lv_room (Nat.le_of_ble_eq_true rfl)) ⟨Nat.le_of_ble_eq_true rfl, Nat.le_of_ble_eq_true rfl⟩ dX6_goes_239 ?_
              refine va_iastk (k := 10) hx hb hK hP hD hS 1 0 rfl rfl rfl (show ¬ _ from by decide) dX6_goes_242 (fun H locs hP hD hS => ?_)
              have hP : va_P D zCl (cT k a (tw_s_m t_22 (upd (tw_m t_22) 10 r_25))) H := hP
              have hD : va_D A (cT k a (tw_s_m t_22 (upd (tw_m t_22) 10 r_25))) := hD
              obtain ⟨t_26, et_26⟩ : ∃ z : Tw, z = (tw_s_m t_22 (upd (tw_m t_22) 10 r_25)) := ⟨_, rfl⟩
              rw [← et_26] at hP hD
              have hrun := mlt_s hrun t_26 et_26
              refine lv_iinc (v := (x4_5 + (1 : Int32))) (lv' := [(4, .int (x4_5 + (1 : Int32))), (0, .ref (a 0)), (1, .int p1), (2, .int (bz p2)), (3, .int ((tw_m t) 11))]) hx hb dX6_goes_243 hl (k := 4) rfl rfl (by decide) rfl (fun ls hl => ?_)
              refine lv_goto (tgt := 11) hx hb dX6_goes_246 (by decide) ?_
              exact ih (x4_5 + (1 : Int32)) t_26 _ _ hP hD hS ls (lv_sub hl [1, 2, 3, 4, 0] rfl) hrun
            refine lv_if_eq (tgt := 221) hx hb dX6_goes_172 (by decide) (fun c_20 => ?_) (fun c_20 => ?_)
            · have hrun := mif_n (bz_z c_20) hrun
              exact hj_21 t_19 _ _ hP hD hS ls (lv_sub hl [0, 1, 2, 3, 4] rfl) hrun
            have hrun := mif_p (bz_nz c_20) hrun
            refine lv_aload_n hx hb dX6_goes_175 rfl (lv_at hl 0 rfl) ?_
            refine lv_bipush (v := (100 : Int32)) hx hb dX6_goes_176 (by decide) ?_
            obtain ⟨r_29, t_28, hc_27, hrun⟩ := mo2_s rfl hrun
            refine cWV00 (As := [.int (100 : Int32)]) (ci := 0) ⟨hx, hb, hml, hown, hts⟩ hOK hz hS hA hP hD (mtX6_draw l D k a Z hOK _ _ _ _ hc_27) (kX6_draw hts q2263 rfl rfl ⟨Nat.le_of_ble_eq_true rfl, Nat.le_of_ble_eq_true rfl⟩) 0 rfl rfl rfl hl.1 rfl (lv_room (Nat.le_of_ble_eq_true rfl)) ⟨Nat.le_of_ble_eq_true rfl, Nat.le_of_ble_eq_true rfl⟩ dX6_goes_178 (fun r_ w_ H locs hq hP hD hS => ?_)
            obtain ⟨rfl, rfl⟩ := hq
            refine lv_aload_n hx hb dX6_goes_181 rfl (lv_at hl 0 rfl) ?_
            refine va_get (ci := 0) (v := .ref (a 1)) (C := RX6) (T := TX6) (N := 22) hx hb hts in_X6 hown hK hP 0 rfl rfl 1 (by decide) (hts _ q1903) (fun _ h9 => h9) rfl dX6_goes_182 ?_
            refine lv_bipush (v := (9 : Int32)) hx hb dX6_goes_185 (by decide) ?_
            refine va_ialdk (k := 9) hx hb hK hP 1 0 rfl rfl rfl (show ¬ _ from by decide) dX6_goes_187 ?_
            refine lv_icmp_ge (tgt := 221) hx hb dX6_goes_188 (by decide) (fun c_30 => ?_) (fun c_30 => ?_)
            · have hrun := mif_p c_30 hrun
              exact hj_21 t_28 _ _ hP hD hS ls (lv_sub hl [0, 1, 2, 3, 4] rfl) hrun
            have hrun := mif_n c_30 hrun
            refine lv_aload_n hx hb dX6_goes_191 rfl (lv_at hl 0 rfl) ?_
            refine lv_bipush (v := (8 : Int32)) hx hb dX6_goes_192 (by decide) ?_
            obtain ⟨r_33, t_32, hc_31, hrun⟩ := mo2_s rfl hrun
            refine cWV00 (As := [.int (8 : Int32)]) (ci := 0) ⟨hx, hb, hml, hown, hts⟩ hOK hz hS hA hP hD (mtX6_draw l D k a Z hOK _ _ _ _ hc_31) (kX6_draw hts q2263 rfl rfl ⟨Nat.le_of_ble_eq_true rfl, Nat.le_of_ble_eq_true rfl⟩) 0 rfl rfl rfl hl.1 rfl (lv_room (Nat.le_of_ble_eq_true rfl)) ⟨Nat.le_of_ble_eq_true rfl, Nat.le_of_ble_eq_true rfl⟩ dX6_goes_194 (fun r_ w_ H locs hq hP hD hS => ?_)
            obtain ⟨rfl, rfl⟩ := hq
            refine lv_istore (lv' := [(6, .int r_33), (0, .ref (a 0)), (1, .int p1), (2, .int (bz p2)), (3, .int ((tw_m t) 11)), (4, .int x4_5)]) hx hb dX6_goes_197 hl (by decide) rfl (fun ls hl => ?_)
            refine lv_aload_n hx hb dX6_goes_199 rfl (lv_at hl 1 rfl) ?_
            refine va_get (ci := 0) (v := .ref (a 1)) (C := RX6) (T := TX6) (N := 22) hx hb hts in_X6 hown hK hP 0 rfl rfl 1 (by decide) (hts _ q1903) (fun _ h9 => h9) rfl dX6_goes_200 ?_
            refine lv_bipush (v := (16 : Int32)) hx hb dX6_goes_203 (by decide) ?_
            refine lv_iload hx hb dX6_goes_205 (lv_at hl 0 rfl) ?_
            refine lv_iadd hx hb dX6_goes_207 ?_
            refine lv_dup2_11 hx hb dX6_goes_208 rfl rfl ?_
            obtain ⟨hb_34, hrun⟩ := mck_s rfl hrun
            refine va_iald hx hb hK hP 1 0 rfl rfl hb_34 dX6_goes_209 ?_
            refine lv_iconst (v := (1 : Int32)) hx hb dX6_goes_210 (by decide) ?_
            refine lv_iload hx hb dX6_goes_211 (lv_at hl 0 rfl) ?_
            refine lv_iconst (v := (1 : Int32)) hx hb dX6_goes_213 (by decide) ?_
            refine lv_iadd hx hb dX6_goes_214 ?_
            refine lv_bipush (v := (8 : Int32)) hx hb dX6_goes_215 (by decide) ?_
            refine lv_irem hx hb dX6_goes_217 (by decide) ?_
            refine lv_ishl hx hb dX6_goes_218 ?_
            refine lv_ior hx hb dX6_goes_219 ?_
            obtain ⟨hb_35, hrun⟩ := mck_s rfl hrun
            refine va_iast hx hb hK hP hD hS 1 0 rfl rfl hb_35 dX6_goes_220 (fun H locs hP hD hS => ?_)
            have hP : va_P D zCl (cT k a (tw_s_m t_32 (upd (tw_m t_32) (Int32.toNatClampNeg ((16 : Int32) + r_33)) (((tw_m t_32) (Int32.toNatClampNeg ((16 : Int32) + r_33))) ||| ((1 : Int32) <<< ((mrm (r_33 + (1 : Int32)) (8 : Int32)) &&& (31 : Int32))))))) H := hP
            have hD : va_D A (cT k a (tw_s_m t_32 (upd (tw_m t_32) (Int32.toNatClampNeg ((16 : Int32) + r_33)) (((tw_m t_32) (Int32.toNatClampNeg ((16 : Int32) + r_33))) ||| ((1 : Int32) <<< ((mrm (r_33 + (1 : Int32)) (8 : Int32)) &&& (31 : Int32))))))) := hD
            obtain ⟨t_36, et_36⟩ : ∃ z : Tw, z = (tw_s_m t_32 (upd (tw_m t_32) (Int32.toNatClampNeg ((16 : Int32) + r_33)) (((tw_m t_32) (Int32.toNatClampNeg ((16 : Int32) + r_33))) ||| ((1 : Int32) <<< ((mrm (r_33 + (1 : Int32)) (8 : Int32)) &&& (31 : Int32)))))) := ⟨_, rfl⟩
            rw [← et_36] at hP hD
            have hrun := mlt_s hrun t_36 et_36
            exact hj_21 t_36 _ _ hP hD hS ls (lv_sub hl [1, 2, 3, 4, 5] rfl) hrun
          have hL_37 : ∀ n : Nat, ∀ (x6_38 : Int32) (t_39 : Tw), ∀ (H : Heap) (locs : List Loc), va_P D zCl (cT k a t_39) H → va_D A (cT k a t_39) → va_S A s.heap H locs → ∀ ls : Array Slot, lv_has ls 7 [(0, .ref (a 0)), (1, .int p1), (2, .int (bz p2)), (3, .int ((tw_m t) 11)), (4, .int x4_5), (5, .int y_13), (6, .int x6_38)] → fX6_goes_L119 K_17 y_13 n x6_38 t_39 = some (r, tt) → W p l e rX6_goes s m args below meth c H locs 0 0 (MQ below (QWr (fun r' w' => r' = (some (.int r)) ∧ w' = cT k a tt) D zCl A) args s 0 0 A) (F0 m 119 ls []) := by
            intro n
            induction n with
            | zero =>
              intro x6_38 t_39 H locs hP hD hS ls hl hrun
              exact nomatch hrun
            | succ n ih =>
              intro x6_38 t_39 H locs hP hD hS ls hl hrun
              rw [fX6_goes_L119.eq_2] at hrun
              refine lv_iload hx hb dX6_goes_119 (lv_at hl 6 rfl) ?_
              refine lv_aload_n hx hb dX6_goes_121 rfl (lv_at hl 0 rfl) ?_
              refine va_get (ci := 0) (v := .ref (a 1)) (C := RX6) (T := TX6) (N := 22) hx hb hts in_X6 hown hK hP 0 rfl rfl 1 (by decide) (hts _ q1903) (fun _ h9 => h9) rfl dX6_goes_122 ?_
              refine lv_iconst (v := (3 : Int32)) hx hb dX6_goes_125 (by decide) ?_
              refine va_ialdk (k := 3) hx hb hK hP 1 0 rfl rfl rfl (show ¬ _ from by decide) dX6_goes_126 ?_
              refine lv_icmp_ge (tgt := 167) hx hb dX6_goes_127 (by decide) (fun c_40 => ?_) (fun c_40 => ?_)
              · have hrun := mif_p c_40 hrun
                exact hj_15 t_39 _ _ hP hD hS ls (lv_sub hl [0, 1, 2, 3, 4] rfl) hrun
              have hrun := mif_n c_40 hrun
              refine lv_iload hx hb dX6_goes_130 (lv_at hl 5 rfl) ?_
              refine lv_iload hx hb dX6_goes_132 (lv_at hl 6 rfl) ?_
              obtain ⟨r_42, hc_41, hrun⟩ := mob_s rfl hrun
              refine cRS (ws := []) (As := [.int y_13, .int x6_38]) ⟨hx, hb, hml, hown, hts⟩ hOK hz hS zP0 (mtX6_isOf l D Z hOK _ _ _ hc_41) (kX6_isOf hts q2175 rfl rfl ⟨Nat.le_of_ble_eq_true rfl, Nat.le_of_ble_eq_true rfl⟩) rfl hl.1 rfl (lv_room (Nat.le_of_ble_eq_true rfl)) ⟨Nat.le_of_ble_eq_true rfl, Nat.le_of_ble_eq_true rfl⟩ dX6_goes_134 ?_
              refine lv_if_eq (tgt := 161) hx hb dX6_goes_137 (by decide) (fun c_43 => ?_) (fun c_43 => ?_)
              · have hrun := mif_n (bz_z c_43) hrun
                refine lv_iinc (v := (x6_38 + (1 : Int32))) (lv' := [(6, .int (x6_38 + (1 : Int32))), (0, .ref (a 0)), (1, .int p1), (2, .int (bz p2)), (3, .int ((tw_m t) 11)), (4, .int x4_5), (5, .int y_13)]) hx hb dX6_goes_161 hl (k := 6) rfl rfl (by decide) rfl (fun ls hl => ?_)
                refine lv_goto (tgt := 119) hx hb dX6_goes_164 (by decide) ?_
                exact ih (x6_38 + (1 : Int32)) t_39 _ _ hP hD hS ls (lv_sub hl [1, 2, 3, 4, 5, 6, 0] rfl) hrun
              have hrun := mif_p (bz_nz c_43) hrun
              refine lv_aload_n hx hb dX6_goes_140 rfl (lv_at hl 0 rfl) ?_
              refine lv_bipush (v := (10 : Int32)) hx hb dX6_goes_141 (by decide) ?_
              obtain ⟨r_46, t_45, hc_44, hrun⟩ := mo2_s rfl hrun
              refine cWV00 (As := [.int (10 : Int32)]) (ci := 0) ⟨hx, hb, hml, hown, hts⟩ hOK hz hS hA hP hD (mtX6_draw l D k a Z hOK _ _ _ _ hc_44) (kX6_draw hts q2263 rfl rfl ⟨Nat.le_of_ble_eq_true rfl, Nat.le_of_ble_eq_true rfl⟩) 0 rfl rfl rfl hl.1 rfl (lv_room (Nat.le_of_ble_eq_true rfl)) ⟨Nat.le_of_ble_eq_true rfl, Nat.le_of_ble_eq_true rfl⟩ dX6_goes_143 (fun r_ w_ H locs hq hP hD hS => ?_)
              obtain ⟨rfl, rfl⟩ := hq
              refine lv_aload_n hx hb dX6_goes_146 rfl (lv_at hl 0 rfl) ?_
              refine lv_iload hx hb dX6_goes_147 (lv_at hl 6 rfl) ?_
              obtain ⟨r_48, hc_47, hrun⟩ := mob_s rfl hrun
              refine cRV (As := [.int x6_38]) (ci := 0) ⟨hx, hb, hml, hown, hts⟩ hOK hz hS hP (mtX6_risk l D k a Z hOK _ _ _ hc_47) (kX6_risk hts q2140 rfl rfl ⟨Nat.le_of_ble_eq_true rfl, Nat.le_of_ble_eq_true rfl⟩) 0 rfl rfl rfl hl.1 rfl (lv_room (Nat.le_of_ble_eq_true rfl)) ⟨Nat.le_of_ble_eq_true rfl, Nat.le_of_ble_eq_true rfl⟩ dX6_goes_149 ?_
              refine lv_icmp_ge (tgt := 161) hx hb dX6_goes_152 (by decide) (fun c_49 => ?_) (fun c_49 => ?_)
              · have hrun := mif_p c_49 hrun
                refine lv_iinc (v := (x6_38 + (1 : Int32))) (lv' := [(6, .int (x6_38 + (1 : Int32))), (0, .ref (a 0)), (1, .int p1), (2, .int (bz p2)), (3, .int ((tw_m t) 11)), (4, .int x4_5), (5, .int y_13)]) hx hb dX6_goes_161 hl (k := 6) rfl rfl (by decide) rfl (fun ls hl => ?_)
                refine lv_goto (tgt := 119) hx hb dX6_goes_164 (by decide) ?_
                exact ih (x6_38 + (1 : Int32)) t_45 _ _ hP hD hS ls (lv_sub hl [1, 2, 3, 4, 5, 6, 0] rfl) hrun
              have hrun := mif_n c_49 hrun
              refine lv_aload_n hx hb dX6_goes_155 rfl (lv_at hl 0 rfl) ?_
              refine lv_iload hx hb dX6_goes_156 (lv_at hl 6 rfl) ?_
              obtain ⟨t_51, hc_50, hrun⟩ := mob_s rfl hrun
              refine cWV00 (As := [.int x6_38]) (ci := 0) ⟨hx, hb, hml, hown, hts⟩ hOK hz hS hA hP hD (mtX6_looks l D k a Z hOK _ _ _ hc_50) (kX6_looks hts q2268 rfl rfl ⟨Nat.le_of_ble_eq_true rfl, Nat.le_of_ble_eq_true rfl⟩) 0 rfl rfl rfl hl.1 rfl (lv_room (Nat.le_of_ble_eq_true rfl)) ⟨Nat.le_of_ble_eq_true rfl, Nat.le_of_ble_eq_true rfl⟩ dX6_goes_158 (fun r_ w_ H locs hq hP hD hS => ?_)
              obtain ⟨rfl, rfl⟩ := hq
              refine lv_iinc (v := (x6_38 + (1 : Int32))) (lv' := [(6, .int (x6_38 + (1 : Int32))), (0, .ref (a 0)), (1, .int p1), (2, .int (bz p2)), (3, .int ((tw_m t) 11)), (4, .int x4_5), (5, .int y_13)]) hx hb dX6_goes_161 hl (k := 6) rfl rfl (by decide) rfl (fun ls hl => ?_)
              refine lv_goto (tgt := 119) hx hb dX6_goes_164 (by decide) ?_
              exact ih (x6_38 + (1 : Int32)) t_51 _ _ hP hD hS ls (lv_sub hl [1, 2, 3, 4, 5, 6, 0] rfl) hrun
          exact hL_37 mFU (0 : Int32) t_9 _ _ hP hD hS ls (lv_sub hl [2, 3, 4, 5, 6, 1, 0] rfl) hrun
        refine lv_if_eq (tgt := 113) hx hb dX6_goes_77 (by decide) (fun c_11 => ?_) (fun c_11 => ?_)
        · have hrun := mif_n (bz_z c_11) hrun
          refine lv_iconst (v := (0 : Int32)) hx hb dX6_goes_113 (by decide) ?_
          exact hj_12 (0 : Int32) _ _ hP hD hS ls (lv_sub hl [0, 1, 2, 3, 4] rfl) hrun
        have hrun := mif_p (bz_nz c_11) hrun
        refine lv_aload_n hx hb dX6_goes_80 rfl (lv_at hl 0 rfl) ?_
        refine lv_aload_n hx hb dX6_goes_81 rfl (lv_at hl 0 rfl) ?_
        refine va_get (ci := 0) (v := .ref (a 1)) (C := RX6) (T := TX6) (N := 22) hx hb hts in_X6 hown hK hP 0 rfl rfl 1 (by decide) (hts _ q1903) (fun _ h9 => h9) rfl dX6_goes_82 ?_
        refine lv_iconst (v := (5 : Int32)) hx hb dX6_goes_85 (by decide) ?_
        refine va_ialdk (k := 5) hx hb hK hP 1 0 rfl rfl rfl (show ¬ _ from by decide) dX6_goes_86 ?_
        refine lv_aload_n hx hb dX6_goes_87 rfl (lv_at hl 0 rfl) ?_
        refine va_get (ci := 0) (v := .ref (a 1)) (C := RX6) (T := TX6) (N := 22) hx hb hts in_X6 hown hK hP 0 rfl rfl 1 (by decide) (hts _ q1903) (fun _ h9 => h9) rfl dX6_goes_88 ?_
        refine lv_bipush (v := (10 : Int32)) hx hb dX6_goes_91 (by decide) ?_
        refine va_ialdk (k := 10) hx hb hK hP 1 0 rfl rfl rfl (show ¬ _ from by decide) dX6_goes_93 ?_
        obtain ⟨r_54, hc_53, hrun⟩ := mob_s rfl hrun
        refine cRV (As := [.int ((tw_m t_9) 5), .int ((tw_m t_9) 10)]) (ci := 0) ⟨hx, hb, hml, hown, hts⟩ hOK hz hS hP (mtX6_isSaturday l D k a Z hOK _ _ _ _ hc_53) (kX6_isSaturday hts q2151 rfl rfl ⟨Nat.le_of_ble_eq_true rfl, Nat.le_of_ble_eq_true rfl⟩) 0 rfl rfl rfl hl.1 rfl (lv_room (Nat.le_of_ble_eq_true rfl)) ⟨Nat.le_of_ble_eq_true rfl, Nat.le_of_ble_eq_true rfl⟩ dX6_goes_94 ?_
        refine lv_if_eq (tgt := 113) hx hb dX6_goes_97 (by decide) (fun c_55 => ?_) (fun c_55 => ?_)
        · have hrun := mif_n (bz_z c_55) hrun
          refine lv_iconst (v := (0 : Int32)) hx hb dX6_goes_113 (by decide) ?_
          exact hj_12 (0 : Int32) _ _ hP hD hS ls (lv_sub hl [0, 1, 2, 3, 4] rfl) hrun
        have hrun := mif_p (bz_nz c_55) hrun
        refine lv_aload_n hx hb dX6_goes_100 rfl (lv_at hl 0 rfl) ?_
        refine lv_aload_n hx hb dX6_goes_101 rfl (lv_at hl 0 rfl) ?_
        refine va_get (ci := 0) (v := .ref (a 1)) (C := RX6) (T := TX6) (N := 22) hx hb hts in_X6 hown hK hP 0 rfl rfl 1 (by decide) (hts _ q1903) (fun _ h9 => h9) rfl dX6_goes_102 ?_
        refine lv_iconst (v := (4 : Int32)) hx hb dX6_goes_105 (by decide) ?_
        refine va_ialdk (k := 4) hx hb hK hP 1 0 rfl rfl rfl (show ¬ _ from by decide) dX6_goes_106 ?_
        obtain ⟨r_57, hc_56, hrun⟩ := mob_s rfl hrun
        refine cRV (As := [.int ((tw_m t_9) 4)]) (ci := 0) ⟨hx, hb, hml, hown, hts⟩ hOK hz hS hP (mtX6_watchers l D k a Z hOK _ _ _ hc_56) (kX6_watchers hts q2193 rfl rfl ⟨Nat.le_of_ble_eq_true rfl, Nat.le_of_ble_eq_true rfl⟩) 0 rfl rfl rfl hl.1 rfl (lv_room (Nat.le_of_ble_eq_true rfl)) ⟨Nat.le_of_ble_eq_true rfl, Nat.le_of_ble_eq_true rfl⟩ dX6_goes_107 ?_
        refine lv_goto (tgt := 114) hx hb dX6_goes_110 (by decide) ?_
        exact hj_12 r_57 _ _ hP hD hS ls (lv_sub hl [0, 1, 2, 3, 4] rfl) hrun
      have hL_58 : ∀ n : Nat, ∀ (x5_59 : Int32) (t_60 : Tw), ∀ (H : Heap) (locs : List Loc), va_P D zCl (cT k a t_60) H → va_D A (cT k a t_60) → va_S A s.heap H locs → ∀ ls : Array Slot, lv_has ls 7 [(0, .ref (a 0)), (1, .int p1), (2, .int (bz p2)), (3, .int ((tw_m t) 11)), (4, .int x4_5), (5, .int x5_59)] → fX6_goes_L20 K_10 n x5_59 t_60 = some (r, tt) → W p l e rX6_goes s m args below meth c H locs 0 0 (MQ below (QWr (fun r' w' => r' = (some (.int r)) ∧ w' = cT k a tt) D zCl A) args s 0 0 A) (F0 m 20 ls []) := by
        intro n
        induction n with
        | zero =>
          intro x5_59 t_60 H locs hP hD hS ls hl hrun
          exact nomatch hrun
        | succ n ih =>
          intro x5_59 t_60 H locs hP hD hS ls hl hrun
          rw [fX6_goes_L20.eq_2] at hrun
          refine lv_iload hx hb dX6_goes_20 (lv_at hl 5 rfl) ?_
          refine lv_aload_n hx hb dX6_goes_22 rfl (lv_at hl 0 rfl) ?_
          refine va_get (ci := 0) (v := .ref (a 1)) (C := RX6) (T := TX6) (N := 22) hx hb hts in_X6 hown hK hP 0 rfl rfl 1 (by decide) (hts _ q1903) (fun _ h9 => h9) rfl dX6_goes_23 ?_
          refine lv_iconst (v := (3 : Int32)) hx hb dX6_goes_26 (by decide) ?_
          refine va_ialdk (k := 3) hx hb hK hP 1 0 rfl rfl rfl (show ¬ _ from by decide) dX6_goes_27 ?_
          refine lv_icmp_ge (tgt := 76) hx hb dX6_goes_28 (by decide) (fun c_61 => ?_) (fun c_61 => ?_)
          · have hrun := mif_p c_61 hrun
            exact hj_8 t_60 _ _ hP hD hS ls (lv_sub hl [0, 1, 2, 3, 4] rfl) hrun
          have hrun := mif_n c_61 hrun
          refine lv_aload_n hx hb dX6_goes_31 rfl (lv_at hl 0 rfl) ?_
          refine lv_iload hx hb dX6_goes_32 (lv_at hl 5 rfl) ?_
          obtain ⟨r_63, hc_62, hrun⟩ := mob_s rfl hrun
          refine cRV (As := [.int x5_59]) (ci := 0) ⟨hx, hb, hml, hown, hts⟩ hOK hz hS hP (mtX6_isHere l D k a Z hOK _ _ _ hc_62) (kX6_isHere hts q2155 rfl rfl ⟨Nat.le_of_ble_eq_true rfl, Nat.le_of_ble_eq_true rfl⟩) 0 rfl rfl rfl hl.1 rfl (lv_room (Nat.le_of_ble_eq_true rfl)) ⟨Nat.le_of_ble_eq_true rfl, Nat.le_of_ble_eq_true rfl⟩ dX6_goes_34 ?_
          refine lv_if_eq (tgt := 70) hx hb dX6_goes_37 (by decide) (fun c_64 => ?_) (fun c_64 => ?_)
          · have hrun := mif_n (bz_z c_64) hrun
            refine lv_iinc (v := (x5_59 + (1 : Int32))) (lv' := [(5, .int (x5_59 + (1 : Int32))), (0, .ref (a 0)), (1, .int p1), (2, .int (bz p2)), (3, .int ((tw_m t) 11)), (4, .int x4_5)]) hx hb dX6_goes_70 hl (k := 5) rfl rfl (by decide) rfl (fun ls hl => ?_)
            refine lv_goto (tgt := 20) hx hb dX6_goes_73 (by decide) ?_
            exact ih (x5_59 + (1 : Int32)) t_60 _ _ hP hD hS ls (lv_sub hl [1, 2, 3, 4, 5, 0] rfl) hrun
          have hrun := mif_p (bz_nz c_64) hrun
          refine lv_aload_n hx hb dX6_goes_40 rfl (lv_at hl 0 rfl) ?_
          refine lv_iload hx hb dX6_goes_41 (lv_at hl 5 rfl) ?_
          refine lv_iconst (v := (2 : Int32)) hx hb dX6_goes_43 (by decide) ?_
          refine lv_iconst (v := (0 : Int32)) hx hb dX6_goes_44 (by decide) ?_
          refine lv_bipush (v := (99 : Int32)) hx hb dX6_goes_45 (by decide) ?_
          refine lv_aload_n hx hb dX6_goes_47 rfl (lv_at hl 0 rfl) ?_
          refine lv_iload hx hb dX6_goes_48 (lv_at hl 5 rfl) ?_
          refine lv_iconst (v := (2 : Int32)) hx hb dX6_goes_50 (by decide) ?_
          obtain ⟨r_66, hc_65, hrun⟩ := mob_s rfl hrun
          refine cRV (As := [.int x5_59, .int (2 : Int32)]) (ci := 0) ⟨hx, hb, hml, hown, hts⟩ hOK hz hS hP (mtX6_of l D k a Z hOK _ _ _ _ hc_65) (kX6_of hts q2136 rfl rfl ⟨Nat.le_of_ble_eq_true rfl, Nat.le_of_ble_eq_true rfl⟩) 0 rfl rfl rfl hl.1 rfl (lv_room (Nat.le_of_ble_eq_true rfl)) ⟨Nat.le_of_ble_eq_true rfl, Nat.le_of_ble_eq_true rfl⟩ dX6_goes_51 ?_
          refine lv_aload_n hx hb dX6_goes_54 rfl (lv_at hl 0 rfl) ?_
          refine lv_iload hx hb dX6_goes_55 (lv_at hl 5 rfl) ?_
          obtain ⟨r_69, t_68, hc_67, hrun⟩ := mo2_s rfl hrun
          refine cWV00 (As := [.int x5_59]) (ci := 0) ⟨hx, hb, hml, hown, hts⟩ hOK hz hS hA hP hD (mtX6_turnsBy l D k a Z hOK hStr _ _ _ _ hc_67) (kX6_turnsBy hts q2144 rfl rfl ⟨Nat.le_of_ble_eq_true rfl, Nat.le_of_ble_eq_true rfl⟩) 0 rfl rfl rfl hl.1 rfl (lv_room (Nat.le_of_ble_eq_true rfl)) ⟨Nat.le_of_ble_eq_true rfl, Nat.le_of_ble_eq_true rfl⟩ dX6_goes_57 (fun r_ w_ H locs hq hP hD hS => ?_)
          obtain ⟨rfl, rfl⟩ := hq
          refine lv_iadd hx hb dX6_goes_60 ?_
          obtain ⟨r_71, hc_70, hrun⟩ := mob_s rfl hrun
          refine cRS (ws := []) (As := [.int (99 : Int32), .int (r_66 + r_69)]) ⟨hx, hb, hml, hown, hts⟩ hOK hz hS zP0 (mtX6_lesser l D Z hOK _ _ _ hc_70) (kX6_lesser hts q2245 rfl rfl ⟨Nat.le_of_ble_eq_true rfl, Nat.le_of_ble_eq_true rfl⟩) rfl hl.1 rfl (lv_room (Nat.le_of_ble_eq_true rfl)) ⟨Nat.le_of_ble_eq_true rfl, Nat.le_of_ble_eq_true rfl⟩ dX6_goes_61 ?_
          obtain ⟨r_73, hc_72, hrun⟩ := mob_s rfl hrun
          refine cRS (ws := []) (As := [.int (0 : Int32), .int r_71]) ⟨hx, hb, hml, hown, hts⟩ hOK hz hS zP0 (mtX6_greater l D Z hOK _ _ _ hc_72) (kX6_greater hts q2260 rfl rfl ⟨Nat.le_of_ble_eq_true rfl, Nat.le_of_ble_eq_true rfl⟩) rfl hl.1 rfl (lv_room (Nat.le_of_ble_eq_true rfl)) ⟨Nat.le_of_ble_eq_true rfl, Nat.le_of_ble_eq_true rfl⟩ dX6_goes_64 ?_
          obtain ⟨t_75, hc_74, hrun⟩ := mob_s rfl hrun
          refine cWV00 (As := [.int x5_59, .int (2 : Int32), .int r_73]) (ci := 0) ⟨hx, hb, hml, hown, hts⟩ hOK hz hS hA hP hD (mtX6_put l D k a Z hOK _ _ _ _ _ hc_74) (kX6_put hts q2096 rfl rfl ⟨Nat.le_of_ble_eq_true rfl, Nat.le_of_ble_eq_true rfl⟩) 0 rfl rfl rfl hl.1 rfl (lv_room (Nat.le_of_ble_eq_true rfl)) ⟨Nat.le_of_ble_eq_true rfl, Nat.le_of_ble_eq_true rfl⟩ dX6_goes_67 (fun r_ w_ H locs hq hP hD hS => ?_)
          obtain ⟨rfl, rfl⟩ := hq
          refine lv_iinc (v := (x5_59 + (1 : Int32))) (lv' := [(5, .int (x5_59 + (1 : Int32))), (0, .ref (a 0)), (1, .int p1), (2, .int (bz p2)), (3, .int ((tw_m t) 11)), (4, .int x4_5)]) hx hb dX6_goes_70 hl (k := 5) rfl rfl (by decide) rfl (fun ls hl => ?_)
          refine lv_goto (tgt := 20) hx hb dX6_goes_73 (by decide) ?_
          exact ih (x5_59 + (1 : Int32)) t_75 _ _ hP hD hS ls (lv_sub hl [1, 2, 3, 4, 5, 0] rfl) hrun
      exact hL_58 mFU (0 : Int32) t_6 _ _ hP hD hS ls (lv_sub hl [1, 2, 3, 4, 5, 0] rfl) hrun
  exact hL_4 mFU (0 : Int32) t _ _ hP hD hS ls (lv_sub hl [2, 3, 4, 1, 0] rfl) hrun
