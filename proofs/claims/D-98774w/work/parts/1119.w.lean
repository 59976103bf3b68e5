/-! walks: X6_lawLine, X6_read, X6_law -/
def rX6_lawLine : Room := { frames := 36, cells := 0, slots := 0, locals := 985 }
noncomputable def fX6_lawLine (t : Tw) : Option (Tw) :=
  mo2 (fX6_has t 11) fun r_3 t_2 =>
  if r_3 = true then
    mo2 (fX6_figures t_2 (0 : Int32) (30 : Int32)) fun r_7 t_6 =>
    if (tw_fault t_6) = (-1 : Int32) then
      mo2 (fX6_has t_6 14) fun r_11 t_10 =>
      mjn (fun (y_14 : Bool) (t_15 : Tw) =>
      if (tw_fault t_15) = (-1 : Int32) then
        if y_14 = true then
          mjn (fun (y_21 : Int32) =>
          mlt (tw_s_turns t_15 ((tw_turns t_15) + y_21)) fun t_23 =>
          some t_23) fun K_22 =>
          if r_3 = true then
            K_22 r_7
          else
            K_22 (-r_7)
        else
          some t_15
      else
        some t_15) fun K_16 =>
      if r_11 = true then
        mo2 (fX6_some (fX6_atom 8) t_10) fun r_26 t_25 =>
        if r_26 = true then
          K_16 true t_25
        else
          K_16 false t_25
      else
        K_16 true t_10
    else
      some t_6
  else
    mo2 (fX6_has t_2 13) fun r_30 t_29 =>
    if r_30 = true then
      mo2 (fX6_figures t_29 (0 : Int32) (30 : Int32)) fun r_34 t_33 =>
      if (tw_fault t_33) = (-1 : Int32) then
        mo2 (fX6_has t_33 14) fun r_38 t_37 =>
        mjn (fun (y_41 : Bool) (t_42 : Tw) =>
        if (tw_fault t_42) = (-1 : Int32) then
          if y_41 = true then
            mjn (fun (y_48 : Int32) =>
            mlt (tw_s_turns t_42 ((tw_turns t_42) + y_48)) fun t_50 =>
            some t_50) fun K_49 =>
            if r_3 = true then
              K_49 r_34
            else
              K_49 (-r_34)
          else
            some t_42
        else
          some t_42) fun K_43 =>
        if r_38 = true then
          mo2 (fX6_some (fX6_atom 8) t_37) fun r_53 t_52 =>
          if r_53 = true then
            K_43 true t_52
          else
            K_43 false t_52
        else
          K_43 true t_37
      else
        some t_33
    else
      mob (fX6_wrong t_29 (tw_at_ t_29)) fun t_56 =>
      some t_56
theorem kX6_lawLine {R : Room} {s : State} {args : Array Value} {own : String} {idx mc ms : Nat} {rm : Room} (hts : ∀ w ∈ lw_all, w.before args s = true) (hl : Cond.methodLink own idx yX6_lawLine ∈ lw_all) (hrc : rm.cells = mc) (hrs : rm.slots = ms) (hR : rm.frames + 1 ≤ R.frames ∧ 8 + (4 + 11) + rm.locals ≤ R.locals) : CallW R s args own RX6 idx yX6_lawLine cX6_lawLine 4 none (ws_ yX6_lawLine cX6_lawLine 4 none) rm mc ms 0 :=
  cwV 0 hts (lw_V hl q2014 qs55 q115 q2015) rfl hrc hrs (by decide +kernel) hR
set_option maxHeartbeats 4000000 in
set_option maxRecDepth 100000 in
theorem mtX6_lawLine (l : Launch) (D : va_G) (k : Nat → ClassId) (a : Nat → Nat) (Z : zZ) (hOK : zOK D zCl (zTys k) Z) {adK adV : Nat → Nat} (hStr : zStr Z adK adV) (t : Tw) (tt : Tw) (hrun : fX6_lawLine t = some tt) :
    CtW l yX6_lawLine cX6_lawLine 4 none rX6_lawLine Z D zCl (cT k a t) [.ref (a 0)] (fun r' w' => r' = none ∧ w' = cT k a tt) 0 0 := by
  refine CtW.of (by decide) (Nat.le_of_ble_eq_true rfl) ?_
  intro p e s m args below meth c A hE hA hP hD hS hz ls hl
  obtain ⟨hx, hb, hr, hml, hown, hts, hlocks, hname⟩ := hE
  have hown : s.vm.findClass RX6 = some m.cls := hown
  have hK := hOK.1 _ _ _ hz
  have hl : lv_has ls 4 [(0, .ref (a 0))] := hl
  unfold fX6_lawLine at hrun
  refine lv_aload_n hx hb dX6_lawLine_0 rfl (lv_at hl 0 rfl) ?_
  refine va_ldcS hx hb hown (sr19 hStr hz) dX6_lawLine_1 ?_
  obtain ⟨r_3, t_2, hc_1, hrun⟩ := mo2_s rfl hrun
  refine cWV00 (As := [.ref (adK 11)]) (ci := 0) ⟨hx, hb, hml, hown, hts⟩ hOK hz hS hA hP hD (mtX6_has l D k a Z hOK hStr _ _ _ _ hc_1) (kX6_has hts q2017 rfl rfl ⟨Nat.le_of_ble_eq_true rfl, Nat.le_of_ble_eq_true rfl⟩) 0 rfl rfl rfl hl.1 rfl (lv_room (Nat.le_of_ble_eq_true rfl)) ⟨Nat.le_of_ble_eq_true rfl, Nat.le_of_ble_eq_true rfl⟩ dX6_lawLine_3 (fun r_ w_ H locs hq hP hD hS => ?_)
  obtain ⟨rfl, rfl⟩ := hq
  refine lv_istore_n (lv' := [(1, .int (bz r_3)), (0, .ref (a 0))]) hx hb dX6_lawLine_6 rfl hl (by decide) rfl (fun ls hl => ?_)
  refine lv_iload_n hx hb dX6_lawLine_7 rfl (lv_at hl 0 rfl) ?_
  refine lv_if_ne (tgt := 29) hx hb dX6_lawLine_8 (by decide) (fun c_4 => ?_) (fun c_4 => ?_)
  · have hrun := mif_p (bz_nz c_4) hrun
    refine lv_aload_n hx hb dX6_lawLine_29 rfl (lv_at hl 1 rfl) ?_
    refine lv_iconst (v := (0 : Int32)) hx hb dX6_lawLine_30 (by decide) ?_
    refine lv_bipush (v := (30 : Int32)) hx hb dX6_lawLine_31 (by decide) ?_
    obtain ⟨r_7, t_6, hc_5, hrun⟩ := mo2_s rfl hrun
    refine cWV00 (As := [.int (0 : Int32), .int (30 : Int32)]) (ci := 0) ⟨hx, hb, hml, hown, hts⟩ hOK hz hS hA hP hD (mtX6_figures l D k a Z hOK _ _ _ _ _ hc_5) (kX6_figures hts q2034 rfl rfl ⟨Nat.le_of_ble_eq_true rfl, Nat.le_of_ble_eq_true rfl⟩) 0 rfl rfl rfl hl.1 rfl (lv_room (Nat.le_of_ble_eq_true rfl)) ⟨Nat.le_of_ble_eq_true rfl, Nat.le_of_ble_eq_true rfl⟩ dX6_lawLine_33 (fun r_ w_ H locs hq hP hD hS => ?_)
    obtain ⟨rfl, rfl⟩ := hq
    refine lv_istore_n (lv' := [(2, .int r_7), (1, .int (bz r_3)), (0, .ref (a 0))]) hx hb dX6_lawLine_36 rfl hl (by decide) rfl (fun ls hl => ?_)
    refine lv_aload_n hx hb dX6_lawLine_37 rfl (lv_at hl 2 rfl) ?_
    refine va_get (ci := 0) (v := .int (tw_fault t_6)) (C := RX6) (T := TX6) (N := 22) hx hb hts in_X6 hown hK hP 0 rfl rfl 12 (by decide) (hts _ q1914) (fun _ h9 => h9) rfl dX6_lawLine_38 ?_
    refine lv_iconst (v := (-1 : Int32)) hx hb dX6_lawLine_41 (by decide) ?_
    refine lv_icmp_eq (tgt := 46) hx hb dX6_lawLine_42 (by decide) (fun c_8 => ?_) (fun c_8 => ?_)
    · have hrun := mif_p c_8 hrun
      refine lv_aload_n hx hb dX6_lawLine_46 rfl (lv_at hl 2 rfl) ?_
      refine va_ldcS hx hb hown (sr21 hStr hz) dX6_lawLine_47 ?_
      obtain ⟨r_11, t_10, hc_9, hrun⟩ := mo2_s rfl hrun
      refine cWV00 (As := [.ref (adK 14)]) (ci := 0) ⟨hx, hb, hml, hown, hts⟩ hOK hz hS hA hP hD (mtX6_has l D k a Z hOK hStr _ _ _ _ hc_9) (kX6_has hts q2017 rfl rfl ⟨Nat.le_of_ble_eq_true rfl, Nat.le_of_ble_eq_true rfl⟩) 0 rfl rfl rfl hl.1 rfl (lv_room (Nat.le_of_ble_eq_true rfl)) ⟨Nat.le_of_ble_eq_true rfl, Nat.le_of_ble_eq_true rfl⟩ dX6_lawLine_49 (fun r_ w_ H locs hq hP hD hS => ?_)
      obtain ⟨rfl, rfl⟩ := hq
      obtain ⟨K_16, hK_16, hrun⟩ := mjn_s hrun
      have hj_13 : ∀ (y_14 : Bool) (t_15 : Tw), ∀ (H : Heap) (locs : List Loc), va_P D zCl (cT k a t_15) H → va_D A (cT k a t_15) → va_S A s.heap H locs → ∀ ls : Array Slot, lv_has ls 4 [(0, .ref (a 0)), (1, .int (bz r_3)), (2, .int r_7)] → K_16 y_14 t_15 = some tt → W p l e rX6_lawLine s m args below meth c H locs 0 0 (MQ below (QWr (fun r' w' => r' = none ∧ w' = cT k a tt) D zCl A) args s 0 0 A) (F0 m 67 ls [.int (bz y_14)]) := by
        intro y_14 t_15 H locs hP hD hS ls hl hrun
        rw [hK_16] at hrun
        refine lv_istore_n (lv' := [(3, .int (bz y_14)), (0, .ref (a 0)), (1, .int (bz r_3)), (2, .int r_7)]) hx hb dX6_lawLine_67 rfl hl (by decide) rfl (fun ls hl => ?_)
        refine lv_aload_n hx hb dX6_lawLine_68 rfl (lv_at hl 1 rfl) ?_
        refine va_get (ci := 0) (v := .int (tw_fault t_15)) (C := RX6) (T := TX6) (N := 22) hx hb hts in_X6 hown hK hP 0 rfl rfl 12 (by decide) (hts _ q1914) (fun _ h9 => h9) rfl dX6_lawLine_69 ?_
        refine lv_iconst (v := (-1 : Int32)) hx hb dX6_lawLine_72 (by decide) ?_
        refine lv_icmp_ne (tgt := 99) hx hb dX6_lawLine_73 (by decide) (fun c_17 => ?_) (fun c_17 => ?_)
        · have hrun := mif_n c_17 hrun
          cases hrun
          exact retW_v hx hb hr hlocks hP hD hS ⟨rfl, rfl⟩ dX6_lawLine_99
        have hrun := mif_p c_17 hrun
        refine lv_iload_n hx hb dX6_lawLine_76 rfl (lv_at hl 0 rfl) ?_
        refine lv_if_eq (tgt := 99) hx hb dX6_lawLine_77 (by decide) (fun c_18 => ?_) (fun c_18 => ?_)
        · have hrun := mif_n (bz_z c_18) hrun
          cases hrun
          exact retW_v hx hb hr hlocks hP hD hS ⟨rfl, rfl⟩ dX6_lawLine_99
        have hrun := mif_p (bz_nz c_18) hrun
        refine lv_aload_n hx hb dX6_lawLine_80 rfl (lv_at hl 1 rfl) ?_
        refine lv_dup hx hb dX6_lawLine_81 rfl ?_
        refine va_get (ci := 0) (v := .int (tw_turns t_15)) (C := RX6) (T := TX6) (N := 22) hx hb hts in_X6 hown hK hP 0 rfl rfl 17 (by decide) (hts _ q1919) (fun _ h9 => h9) rfl dX6_lawLine_82 ?_
        refine lv_iload_n hx hb dX6_lawLine_85 rfl (lv_at hl 2 rfl) ?_
        obtain ⟨K_22, hK_22, hrun⟩ := mjn_s hrun
        have hj_20 : ∀ (y_21 : Int32), ∀ (H : Heap) (locs : List Loc), va_P D zCl (cT k a t_15) H → va_D A (cT k a t_15) → va_S A s.heap H locs → ∀ ls : Array Slot, lv_has ls 4 [] → K_22 y_21 = some tt → W p l e rX6_lawLine s m args below meth c H locs 0 0 (MQ below (QWr (fun r' w' => r' = none ∧ w' = cT k a tt) D zCl A) args s 0 0 A) (F0 m 95 ls [.int y_21, .int (tw_turns t_15), .ref (a 0)]) := by
          intro y_21 H locs hP hD hS ls hl hrun
          rw [hK_22] at hrun
          refine lv_iadd hx hb dX6_lawLine_95 ?_
          refine va_put (ci := 0) (v := .int ((tw_turns t_15) + y_21)) (ty := tyX6 17) (C := RX6) (T := TX6) (N := 22) hx hb hts in_X6 tyX6 tyX6_ok nmX6 hown hK hP hD hS 0 rfl rfl 17 (by decide) (hts _ q1919) (fun _ h9 => h9) rfl (tyX6_ok 17 (by decide)) rfl rfl (Nat.le_of_ble_eq_true rfl) dX6_lawLine_96 (fun H locs hP hD hS => ?_)
          have hP : va_P D zCl (cT k a (tw_s_turns t_15 ((tw_turns t_15) + y_21))) H := hP
          have hD : va_D A (cT k a (tw_s_turns t_15 ((tw_turns t_15) + y_21))) := hD
          obtain ⟨t_23, et_23⟩ : ∃ z : Tw, z = (tw_s_turns t_15 ((tw_turns t_15) + y_21)) := ⟨_, rfl⟩
          rw [← et_23] at hP hD
          have hrun := mlt_s hrun t_23 et_23
          cases hrun
          exact retW_v hx hb hr hlocks hP hD hS ⟨rfl, rfl⟩ dX6_lawLine_99
        refine lv_if_eq (tgt := 93) hx hb dX6_lawLine_86 (by decide) (fun c_19 => ?_) (fun c_19 => ?_)
        · have hrun := mif_n (bz_z c_19) hrun
          refine lv_iload_n hx hb dX6_lawLine_93 rfl (lv_at hl 3 rfl) ?_
          refine lv_ineg hx hb dX6_lawLine_94 ?_
          exact hj_20 (-r_7) _ _ hP hD hS ls (lv_sub hl [] rfl) hrun
        have hrun := mif_p (bz_nz c_19) hrun
        refine lv_iload_n hx hb dX6_lawLine_89 rfl (lv_at hl 3 rfl) ?_
        refine lv_goto (tgt := 95) hx hb dX6_lawLine_90 (by decide) ?_
        exact hj_20 r_7 _ _ hP hD hS ls (lv_sub hl [] rfl) hrun
      refine lv_if_eq (tgt := 62) hx hb dX6_lawLine_52 (by decide) (fun c_12 => ?_) (fun c_12 => ?_)
      · have hrun := mif_n (bz_z c_12) hrun
        refine lv_iconst (v := (1 : Int32)) hx hb dX6_lawLine_62 (by decide) ?_
        refine lv_goto (tgt := 67) hx hb dX6_lawLine_63 (by decide) ?_
        exact hj_13 true t_10 _ _ hP hD hS ls (lv_sub hl [2, 1, 0] rfl) hrun
      have hrun := mif_p (bz_nz c_12) hrun
      refine lv_aload_n hx hb dX6_lawLine_55 rfl (lv_at hl 2 rfl) ?_
      obtain ⟨r_26, t_25, hc_24, hrun⟩ := mo2_s rfl hrun
      refine cWV00 (As := []) (ci := 0) ⟨hx, hb, hml, hown, hts⟩ hOK hz hS hA hP hD (mtX6_some l D k a Z hOK hStr 8 (fX6_atom 8) (mtX6_atom l D k a Z hOK hStr 8) _ _ _ hc_24) (kX6_some hts q2043 rfl rfl ⟨Nat.le_of_ble_eq_true rfl, Nat.le_of_ble_eq_true rfl⟩) 0 rfl rfl rfl hl.1 rfl (lv_room (Nat.le_of_ble_eq_true rfl)) ⟨Nat.le_of_ble_eq_true rfl, Nat.le_of_ble_eq_true rfl⟩ dX6_lawLine_56 (fun r_ w_ H locs hq hP hD hS => ?_)
      obtain ⟨rfl, rfl⟩ := hq
      refine lv_if_eq (tgt := 66) hx hb dX6_lawLine_59 (by decide) (fun c_27 => ?_) (fun c_27 => ?_)
      · have hrun := mif_n (bz_z c_27) hrun
        refine lv_iconst (v := (0 : Int32)) hx hb dX6_lawLine_66 (by decide) ?_
        exact hj_13 false t_25 _ _ hP hD hS ls (lv_sub hl [2, 1, 0] rfl) hrun
      have hrun := mif_p (bz_nz c_27) hrun
      refine lv_iconst (v := (1 : Int32)) hx hb dX6_lawLine_62 (by decide) ?_
      refine lv_goto (tgt := 67) hx hb dX6_lawLine_63 (by decide) ?_
      exact hj_13 true t_25 _ _ hP hD hS ls (lv_sub hl [2, 1, 0] rfl) hrun
    have hrun := mif_n c_8 hrun
    cases hrun
    exact retW_v hx hb hr hlocks hP hD hS ⟨rfl, rfl⟩ dX6_lawLine_45
  have hrun := mif_n (bz_z c_4) hrun
  refine lv_aload_n hx hb dX6_lawLine_11 rfl (lv_at hl 1 rfl) ?_
  refine va_ldcS hx hb hown (sr20 hStr hz) dX6_lawLine_12 ?_
  obtain ⟨r_30, t_29, hc_28, hrun⟩ := mo2_s rfl hrun
  refine cWV00 (As := [.ref (adK 13)]) (ci := 0) ⟨hx, hb, hml, hown, hts⟩ hOK hz hS hA hP hD (mtX6_has l D k a Z hOK hStr _ _ _ _ hc_28) (kX6_has hts q2017 rfl rfl ⟨Nat.le_of_ble_eq_true rfl, Nat.le_of_ble_eq_true rfl⟩) 0 rfl rfl rfl hl.1 rfl (lv_room (Nat.le_of_ble_eq_true rfl)) ⟨Nat.le_of_ble_eq_true rfl, Nat.le_of_ble_eq_true rfl⟩ dX6_lawLine_14 (fun r_ w_ H locs hq hP hD hS => ?_)
  obtain ⟨rfl, rfl⟩ := hq
  refine lv_if_ne (tgt := 29) hx hb dX6_lawLine_17 (by decide) (fun c_31 => ?_) (fun c_31 => ?_)
  · have hrun := mif_p (bz_nz c_31) hrun
    refine lv_aload_n hx hb dX6_lawLine_29 rfl (lv_at hl 1 rfl) ?_
    refine lv_iconst (v := (0 : Int32)) hx hb dX6_lawLine_30 (by decide) ?_
    refine lv_bipush (v := (30 : Int32)) hx hb dX6_lawLine_31 (by decide) ?_
    obtain ⟨r_34, t_33, hc_32, hrun⟩ := mo2_s rfl hrun
    refine cWV00 (As := [.int (0 : Int32), .int (30 : Int32)]) (ci := 0) ⟨hx, hb, hml, hown, hts⟩ hOK hz hS hA hP hD (mtX6_figures l D k a Z hOK _ _ _ _ _ hc_32) (kX6_figures hts q2034 rfl rfl ⟨Nat.le_of_ble_eq_true rfl, Nat.le_of_ble_eq_true rfl⟩) 0 rfl rfl rfl hl.1 rfl (lv_room (Nat.le_of_ble_eq_true rfl)) ⟨Nat.le_of_ble_eq_true rfl, Nat.le_of_ble_eq_true rfl⟩ dX6_lawLine_33 (fun r_ w_ H locs hq hP hD hS => ?_)
    obtain ⟨rfl, rfl⟩ := hq
    refine lv_istore_n (lv' := [(2, .int r_34), (1, .int (bz r_3)), (0, .ref (a 0))]) hx hb dX6_lawLine_36 rfl hl (by decide) rfl (fun ls hl => ?_)
    refine lv_aload_n hx hb dX6_lawLine_37 rfl (lv_at hl 2 rfl) ?_
    refine va_get (ci := 0) (v := .int (tw_fault t_33)) (C := RX6) (T := TX6) (N := 22) hx hb hts in_X6 hown hK hP 0 rfl rfl 12 (by decide) (hts _ q1914) (fun _ h9 => h9) rfl dX6_lawLine_38 ?_
    refine lv_iconst (v := (-1 : Int32)) hx hb dX6_lawLine_41 (by decide) ?_
    refine lv_icmp_eq (tgt := 46) hx hb dX6_lawLine_42 (by decide) (fun c_35 => ?_) (fun c_35 => ?_)
    · have hrun := mif_p c_35 hrun
      refine lv_aload_n hx hb dX6_lawLine_46 rfl (lv_at hl 2 rfl) ?_
      refine va_ldcS hx hb hown (sr21 hStr hz) dX6_lawLine_47 ?_
      obtain ⟨r_38, t_37, hc_36, hrun⟩ := mo2_s rfl hrun
      refine cWV00 (As := [.ref (adK 14)]) (ci := 0) ⟨hx, hb, hml, hown, hts⟩ hOK hz hS hA hP hD (mtX6_has l D k a Z hOK hStr _ _ _ _ hc_36) (kX6_has hts q2017 rfl rfl ⟨Nat.le_of_ble_eq_true rfl, Nat.le_of_ble_eq_true rfl⟩) 0 rfl rfl rfl hl.1 rfl (lv_room (Nat.le_of_ble_eq_true rfl)) ⟨Nat.le_of_ble_eq_true rfl, Nat.le_of_ble_eq_true rfl⟩ dX6_lawLine_49 (fun r_ w_ H locs hq hP hD hS => ?_)
      obtain ⟨rfl, rfl⟩ := hq
      obtain ⟨K_43, hK_43, hrun⟩ := mjn_s hrun
      have hj_40 : ∀ (y_41 : Bool) (t_42 : Tw), ∀ (H : Heap) (locs : List Loc), va_P D zCl (cT k a t_42) H → va_D A (cT k a t_42) → va_S A s.heap H locs → ∀ ls : Array Slot, lv_has ls 4 [(0, .ref (a 0)), (1, .int (bz r_3)), (2, .int r_34)] → K_43 y_41 t_42 = some tt → W p l e rX6_lawLine s m args below meth c H locs 0 0 (MQ below (QWr (fun r' w' => r' = none ∧ w' = cT k a tt) D zCl A) args s 0 0 A) (F0 m 67 ls [.int (bz y_41)]) := by
        intro y_41 t_42 H locs hP hD hS ls hl hrun
        rw [hK_43] at hrun
        refine lv_istore_n (lv' := [(3, .int (bz y_41)), (0, .ref (a 0)), (1, .int (bz r_3)), (2, .int r_34)]) hx hb dX6_lawLine_67 rfl hl (by decide) rfl (fun ls hl => ?_)
        refine lv_aload_n hx hb dX6_lawLine_68 rfl (lv_at hl 1 rfl) ?_
        refine va_get (ci := 0) (v := .int (tw_fault t_42)) (C := RX6) (T := TX6) (N := 22) hx hb hts in_X6 hown hK hP 0 rfl rfl 12 (by decide) (hts _ q1914) (fun _ h9 => h9) rfl dX6_lawLine_69 ?_
        refine lv_iconst (v := (-1 : Int32)) hx hb dX6_lawLine_72 (by decide) ?_
        refine lv_icmp_ne (tgt := 99) hx hb dX6_lawLine_73 (by decide) (fun c_44 => ?_) (fun c_44 => ?_)
        · have hrun := mif_n c_44 hrun
          cases hrun
          exact retW_v hx hb hr hlocks hP hD hS ⟨rfl, rfl⟩ dX6_lawLine_99
        have hrun := mif_p c_44 hrun
        refine lv_iload_n hx hb dX6_lawLine_76 rfl (lv_at hl 0 rfl) ?_
        refine lv_if_eq (tgt := 99) hx hb dX6_lawLine_77 (by decide) (fun c_45 => ?_) (fun c_45 => ?_)
        · have hrun := mif_n (bz_z c_45) hrun
          cases hrun
          exact retW_v hx hb hr hlocks hP hD hS ⟨rfl, rfl⟩ dX6_lawLine_99
        have hrun := mif_p (bz_nz c_45) hrun
        refine lv_aload_n hx hb dX6_lawLine_80 rfl (lv_at hl 1 rfl) ?_
        refine lv_dup hx hb dX6_lawLine_81 rfl ?_
        refine va_get (ci := 0) (v := .int (tw_turns t_42)) (C := RX6) (T := TX6) (N := 22) hx hb hts in_X6 hown hK hP 0 rfl rfl 17 (by decide) (hts _ q1919) (fun _ h9 => h9) rfl dX6_lawLine_82 ?_
        refine lv_iload_n hx hb dX6_lawLine_85 rfl (lv_at hl 2 rfl) ?_
        obtain ⟨K_49, hK_49, hrun⟩ := mjn_s hrun
        have hj_47 : ∀ (y_48 : Int32), ∀ (H : Heap) (locs : List Loc), va_P D zCl (cT k a t_42) H → va_D A (cT k a t_42) → va_S A s.heap H locs → ∀ ls : Array Slot, lv_has ls 4 [] → K_49 y_48 = some tt → W p l e rX6_lawLine s m args below meth c H locs 0 0 (MQ below (QWr (fun r' w' => r' = none ∧ w' = cT k a tt) D zCl A) args s 0 0 A) (F0 m 95 ls [.int y_48, .int (tw_turns t_42), .ref (a 0)]) := by
          intro y_48 H locs hP hD hS ls hl hrun
          rw [hK_49] at hrun
          refine lv_iadd hx hb dX6_lawLine_95 ?_
          refine va_put (ci := 0) (v := .int ((tw_turns t_42) + y_48)) (ty := tyX6 17) (C := RX6) (T := TX6) (N := 22) hx hb hts in_X6 tyX6 tyX6_ok nmX6 hown hK hP hD hS 0 rfl rfl 17 (by decide) (hts _ q1919) (fun _ h9 => h9) rfl (tyX6_ok 17 (by decide)) rfl rfl (Nat.le_of_ble_eq_true rfl) dX6_lawLine_96 (fun H locs hP hD hS => ?_)
          have hP : va_P D zCl (cT k a (tw_s_turns t_42 ((tw_turns t_42) + y_48))) H := hP
          have hD : va_D A (cT k a (tw_s_turns t_42 ((tw_turns t_42) + y_48))) := hD
          obtain ⟨t_50, et_50⟩ : ∃ z : Tw, z = (tw_s_turns t_42 ((tw_turns t_42) + y_48)) := ⟨_, rfl⟩
          rw [← et_50] at hP hD
          have hrun := mlt_s hrun t_50 et_50
          cases hrun
          exact retW_v hx hb hr hlocks hP hD hS ⟨rfl, rfl⟩ dX6_lawLine_99
        refine lv_if_eq (tgt := 93) hx hb dX6_lawLine_86 (by decide) (fun c_46 => ?_) (fun c_46 => ?_)
        · have hrun := mif_n (bz_z c_46) hrun
          refine lv_iload_n hx hb dX6_lawLine_93 rfl (lv_at hl 3 rfl) ?_
          refine lv_ineg hx hb dX6_lawLine_94 ?_
          exact hj_47 (-r_34) _ _ hP hD hS ls (lv_sub hl [] rfl) hrun
        have hrun := mif_p (bz_nz c_46) hrun
        refine lv_iload_n hx hb dX6_lawLine_89 rfl (lv_at hl 3 rfl) ?_
        refine lv_goto (tgt := 95) hx hb dX6_lawLine_90 (by decide) ?_
        exact hj_47 r_34 _ _ hP hD hS ls (lv_sub hl [] rfl) hrun
      refine lv_if_eq (tgt := 62) hx hb dX6_lawLine_52 (by decide) (fun c_39 => ?_) (fun c_39 => ?_)
      · have hrun := mif_n (bz_z c_39) hrun
        refine lv_iconst (v := (1 : Int32)) hx hb dX6_lawLine_62 (by decide) ?_
        refine lv_goto (tgt := 67) hx hb dX6_lawLine_63 (by decide) ?_
        exact hj_40 true t_37 _ _ hP hD hS ls (lv_sub hl [2, 1, 0] rfl) hrun
      have hrun := mif_p (bz_nz c_39) hrun
      refine lv_aload_n hx hb dX6_lawLine_55 rfl (lv_at hl 2 rfl) ?_
      obtain ⟨r_53, t_52, hc_51, hrun⟩ := mo2_s rfl hrun
      refine cWV00 (As := []) (ci := 0) ⟨hx, hb, hml, hown, hts⟩ hOK hz hS hA hP hD (mtX6_some l D k a Z hOK hStr 8 (fX6_atom 8) (mtX6_atom l D k a Z hOK hStr 8) _ _ _ hc_51) (kX6_some hts q2043 rfl rfl ⟨Nat.le_of_ble_eq_true rfl, Nat.le_of_ble_eq_true rfl⟩) 0 rfl rfl rfl hl.1 rfl (lv_room (Nat.le_of_ble_eq_true rfl)) ⟨Nat.le_of_ble_eq_true rfl, Nat.le_of_ble_eq_true rfl⟩ dX6_lawLine_56 (fun r_ w_ H locs hq hP hD hS => ?_)
      obtain ⟨rfl, rfl⟩ := hq
      refine lv_if_eq (tgt := 66) hx hb dX6_lawLine_59 (by decide) (fun c_54 => ?_) (fun c_54 => ?_)
      · have hrun := mif_n (bz_z c_54) hrun
        refine lv_iconst (v := (0 : Int32)) hx hb dX6_lawLine_66 (by decide) ?_
        exact hj_40 false t_52 _ _ hP hD hS ls (lv_sub hl [2, 1, 0] rfl) hrun
      have hrun := mif_p (bz_nz c_54) hrun
      refine lv_iconst (v := (1 : Int32)) hx hb dX6_lawLine_62 (by decide) ?_
      refine lv_goto (tgt := 67) hx hb dX6_lawLine_63 (by decide) ?_
      exact hj_40 true t_52 _ _ hP hD hS ls (lv_sub hl [2, 1, 0] rfl) hrun
    have hrun := mif_n c_35 hrun
    cases hrun
    exact retW_v hx hb hr hlocks hP hD hS ⟨rfl, rfl⟩ dX6_lawLine_45
  have hrun := mif_n (bz_z c_31) hrun
  refine lv_aload_n hx hb dX6_lawLine_20 rfl (lv_at hl 1 rfl) ?_
  refine lv_aload_n hx hb dX6_lawLine_21 rfl (lv_at hl 1 rfl) ?_
  refine va_get (ci := 0) (v := .int (tw_at_ t_29)) (C := RX6) (T := TX6) (N := 22) hx hb hts in_X6 hown hK hP 0 rfl rfl 11 (by decide) (hts _ q1913) (fun _ h9 => h9) rfl dX6_lawLine_22 ?_
  obtain ⟨t_56, hc_55, hrun⟩ := mob_s rfl hrun
  refine cWV00 (As := [.int (tw_at_ t_29)]) (ci := 0) ⟨hx, hb, hml, hown, hts⟩ hOK hz hS hA hP hD (mtX6_wrong l D k a Z hOK _ _ _ hc_55) (kX6_wrong hts q2008 rfl rfl ⟨Nat.le_of_ble_eq_true rfl, Nat.le_of_ble_eq_true rfl⟩) 0 rfl rfl rfl hl.1 rfl (lv_room (Nat.le_of_ble_eq_true rfl)) ⟨Nat.le_of_ble_eq_true rfl, Nat.le_of_ble_eq_true rfl⟩ dX6_lawLine_25 (fun r_ w_ H locs hq hP hD hS => ?_)
  obtain ⟨rfl, rfl⟩ := hq
  cases hrun
  exact retW_v hx hb hr hlocks hP hD hS ⟨rfl, rfl⟩ dX6_lawLine_28
def rX6_read : Room := { frames := 37, cells := 0, slots := 0, locals := 1008 }
noncomputable def fX6_read_L23 (p1 : Bool) : Nat → Bool → Int32 → Tw → Option (Int32 × Tw)
  | 0, _, _, _ => none
  | n + 1, x2_8, x3_9, t_10 =>
    if x2_8 = true then
      if (tw_fault t_10) = (-1 : Int32) then
        mob (fX6_skip t_10) fun t_14 =>
        mjn (fun (y_17 : Int32) =>
        mjn (fun (t_21 : Tw) =>
        mob (fX6_skip t_21) fun t_24 =>
        if (tw_fault t_24) = (-1 : Int32) then
          if (tw_at_ t_24) = (tw_end_ t_24) then
            fX6_read_L23 p1 n false (x3_9 + (1 : Int32)) t_24
          else
            mo2 (fX6_isSign t_24 (59 : Int32)) fun r_29 t_28 =>
            if r_29 = true then
              mlt (tw_s_at_ t_28 ((tw_at_ t_28) + (1 : Int32))) fun t_33 =>
              fX6_read_L23 p1 n x2_8 (x3_9 + (1 : Int32)) t_33
            else
              mob (fX6_wrong t_28 (tw_at_ t_28)) fun t_32 =>
              fX6_read_L23 p1 n x2_8 (x3_9 + (1 : Int32)) t_32
        else
          fX6_read_L23 p1 n false (x3_9 + (1 : Int32)) t_24) fun K_22 =>
        if x3_9 = y_17 then
          mob (fX6_wrong t_14 (tw_at_ t_14)) fun t_40 =>
          K_22 t_40
        else
          if p1 = true then
            mob (fX6_lawLine t_14) fun t_38 =>
            K_22 t_38
          else
            mob (fX6_houseLine t_14) fun t_36 =>
            K_22 t_36) fun K_18 =>
        if p1 = true then
          K_18 (12 : Int32)
        else
          K_18 (14 : Int32)
      else
        some (x3_9, t_10)
    else
      some (x3_9, t_10)
noncomputable def fX6_read (t : Tw) (p1 : Bool) : Option (Int32 × Tw) :=
  mob (fX6_skip t) fun t_2 =>
  mjn (fun (y_5 : Bool) =>
  fX6_read_L23 p1 mFU y_5 (0 : Int32) t_2) fun K_6 =>
  if (tw_end_ t_2) ≤ (tw_at_ t_2) then
    K_6 false
  else
    K_6 true
theorem kX6_read {R : Room} {s : State} {args : Array Value} {own : String} {idx mc ms : Nat} {rm : Room} (hts : ∀ w ∈ lw_all, w.before args s = true) (hl : Cond.methodLink own idx yX6_read ∈ lw_all) (hrc : rm.cells = mc) (hrs : rm.slots = ms) (hR : rm.frames + 1 ≤ R.frames ∧ 8 + (4 + 11) + rm.locals ≤ R.locals) : CallW R s args own RX6 idx yX6_read cX6_read 4 (some .int) (ws_ yX6_read cX6_read 4 (some .int)) rm mc ms 1 :=
  cwV 1 hts (lw_V hl q1998 qs51 q115 q1999) rfl hrc hrs (by decide +kernel) hR
set_option maxHeartbeats 4000000 in
set_option maxRecDepth 100000 in
theorem mtX6_read (l : Launch) (D : va_G) (k : Nat → ClassId) (a : Nat → Nat) (Z : zZ) (hOK : zOK D zCl (zTys k) Z) {adK adV : Nat → Nat} (hStr : zStr Z adK adV) (t : Tw) (p1 : Bool) (r : Int32) (tt : Tw) (hrun : fX6_read t p1 = some (r, tt)) :
    CtW l yX6_read cX6_read 4 (some .int) rX6_read Z D zCl (cT k a t) [.ref (a 0), .int (bz p1)] (fun r' w' => r' = (some (.int r)) ∧ w' = cT k a tt) 0 0 := by
  refine CtW.of (by decide) (Nat.le_of_ble_eq_true rfl) ?_
  intro p e s m args below meth c A hE hA hP hD hS hz ls hl
  obtain ⟨hx, hb, hr, hml, hown, hts, hlocks, hname⟩ := hE
  have hown : s.vm.findClass RX6 = some m.cls := hown
  have hK := hOK.1 _ _ _ hz
  have hl : lv_has ls 4 [(0, .ref (a 0)), (1, .int (bz p1))] := hl
  unfold fX6_read at hrun
  refine lv_aload_n hx hb dX6_read_0 rfl (lv_at hl 0 rfl) ?_
  obtain ⟨t_2, hc_1, hrun⟩ := mob_s rfl hrun
  refine cWV00 (As := []) (ci := 0) ⟨hx, hb, hml, hown, hts⟩ hOK hz hS hA hP hD (mtX6_skip l D k a Z hOK _ _ hc_1) (kX6_skip hts q2000 rfl rfl ⟨Nat.le_of_ble_eq_true rfl, Nat.le_of_ble_eq_true rfl⟩) 0 rfl rfl rfl hl.1 rfl (lv_room (Nat.le_of_ble_eq_true rfl)) ⟨Nat.le_of_ble_eq_true rfl, Nat.le_of_ble_eq_true rfl⟩ dX6_read_1 (fun r_ w_ H locs hq hP hD hS => ?_)
  obtain ⟨rfl, rfl⟩ := hq
  refine lv_aload_n hx hb dX6_read_4 rfl (lv_at hl 0 rfl) ?_
  refine va_get (ci := 0) (v := .int (tw_at_ t_2)) (C := RX6) (T := TX6) (N := 22) hx hb hts in_X6 hown hK hP 0 rfl rfl 11 (by decide) (hts _ q1913) (fun _ h9 => h9) rfl dX6_read_5 ?_
  refine lv_aload_n hx hb dX6_read_8 rfl (lv_at hl 0 rfl) ?_
  refine va_get (ci := 0) (v := .int (tw_end_ t_2)) (C := RX6) (T := TX6) (N := 22) hx hb hts in_X6 hown hK hP 0 rfl rfl 10 (by decide) (hts _ q1912) (fun _ h9 => h9) rfl dX6_read_9 ?_
  obtain ⟨K_6, hK_6, hrun⟩ := mjn_s hrun
  have hj_4 : ∀ (y_5 : Bool), ∀ (H : Heap) (locs : List Loc), va_P D zCl (cT k a t_2) H → va_D A (cT k a t_2) → va_S A s.heap H locs → ∀ ls : Array Slot, lv_has ls 4 [(0, .ref (a 0)), (1, .int (bz p1))] → K_6 y_5 = some (r, tt) → W p l e rX6_read s m args below meth c H locs 0 0 (MQ below (QWr (fun r' w' => r' = (some (.int r)) ∧ w' = cT k a tt) D zCl A) args s 0 0 A) (F0 m 20 ls [.int (bz y_5)]) := by
    intro y_5 H locs hP hD hS ls hl hrun
    rw [hK_6] at hrun
    refine lv_istore_n (lv' := [(2, .int (bz y_5)), (0, .ref (a 0)), (1, .int (bz p1))]) hx hb dX6_read_20 rfl hl (by decide) rfl (fun ls hl => ?_)
    refine lv_iconst (v := (0 : Int32)) hx hb dX6_read_21 (by decide) ?_
    refine lv_istore_n (lv' := [(3, .int (0 : Int32)), (2, .int (bz y_5)), (0, .ref (a 0)), (1, .int (bz p1))]) hx hb dX6_read_22 rfl hl (by decide) rfl (fun ls hl => ?_)
    have hL_7 : ∀ n : Nat, ∀ (x2_8 : Bool) (x3_9 : Int32) (t_10 : Tw), ∀ (H : Heap) (locs : List Loc), va_P D zCl (cT k a t_10) H → va_D A (cT k a t_10) → va_S A s.heap H locs → ∀ ls : Array Slot, lv_has ls 4 [(0, .ref (a 0)), (1, .int (bz p1)), (2, .int (bz x2_8)), (3, .int x3_9)] → fX6_read_L23 p1 n x2_8 x3_9 t_10 = some (r, tt) → W p l e rX6_read s m args below meth c H locs 0 0 (MQ below (QWr (fun r' w' => r' = (some (.int r)) ∧ w' = cT k a tt) D zCl A) args s 0 0 A) (F0 m 23 ls []) := by
      intro n
      induction n with
      | zero =>
        intro x2_8 x3_9 t_10 H locs hP hD hS ls hl hrun
        exact nomatch hrun
      | succ n ih =>
        intro x2_8 x3_9 t_10 H locs hP hD hS ls hl hrun
        rw [fX6_read_L23.eq_2] at hrun
        refine lv_iload_n hx hb dX6_read_23 rfl (lv_at hl 2 rfl) ?_
        refine lv_if_eq (tgt := 144) hx hb dX6_read_24 (by decide) (fun c_11 => ?_) (fun c_11 => ?_)
        · have hrun := mif_n (bz_z c_11) hrun
          refine lv_iload_n hx hb dX6_read_144 rfl (lv_at hl 3 rfl) ?_
          cases hrun
          exact retW_i hx hb hr hlocks hP hD hS ⟨rfl, rfl⟩ dX6_read_145
        have hrun := mif_p (bz_nz c_11) hrun
        refine lv_aload_n hx hb dX6_read_27 rfl (lv_at hl 0 rfl) ?_
        refine va_get (ci := 0) (v := .int (tw_fault t_10)) (C := RX6) (T := TX6) (N := 22) hx hb hts in_X6 hown hK hP 0 rfl rfl 12 (by decide) (hts _ q1914) (fun _ h9 => h9) rfl dX6_read_28 ?_
        refine lv_iconst (v := (-1 : Int32)) hx hb dX6_read_31 (by decide) ?_
        refine lv_icmp_ne (tgt := 144) hx hb dX6_read_32 (by decide) (fun c_12 => ?_) (fun c_12 => ?_)
        · have hrun := mif_n c_12 hrun
          refine lv_iload_n hx hb dX6_read_144 rfl (lv_at hl 3 rfl) ?_
          cases hrun
          exact retW_i hx hb hr hlocks hP hD hS ⟨rfl, rfl⟩ dX6_read_145
        have hrun := mif_p c_12 hrun
        refine lv_aload_n hx hb dX6_read_35 rfl (lv_at hl 0 rfl) ?_
        obtain ⟨t_14, hc_13, hrun⟩ := mob_s rfl hrun
        refine cWV00 (As := []) (ci := 0) ⟨hx, hb, hml, hown, hts⟩ hOK hz hS hA hP hD (mtX6_skip l D k a Z hOK _ _ hc_13) (kX6_skip hts q2000 rfl rfl ⟨Nat.le_of_ble_eq_true rfl, Nat.le_of_ble_eq_true rfl⟩) 0 rfl rfl rfl hl.1 rfl (lv_room (Nat.le_of_ble_eq_true rfl)) ⟨Nat.le_of_ble_eq_true rfl, Nat.le_of_ble_eq_true rfl⟩ dX6_read_36 (fun r_ w_ H locs hq hP hD hS => ?_)
        obtain ⟨rfl, rfl⟩ := hq
        refine lv_iload_n hx hb dX6_read_39 rfl (lv_at hl 3 rfl) ?_
        refine lv_iload_n hx hb dX6_read_40 rfl (lv_at hl 1 rfl) ?_
        obtain ⟨K_18, hK_18, hrun⟩ := mjn_s hrun
        have hj_16 : ∀ (y_17 : Int32), ∀ (H : Heap) (locs : List Loc), va_P D zCl (cT k a t_14) H → va_D A (cT k a t_14) → va_S A s.heap H locs → ∀ ls : Array Slot, lv_has ls 4 [(0, .ref (a 0)), (1, .int (bz p1)), (2, .int (bz x2_8)), (3, .int x3_9)] → K_18 y_17 = some (r, tt) → W p l e rX6_read s m args below meth c H locs 0 0 (MQ below (QWr (fun r' w' => r' = (some (.int r)) ∧ w' = cT k a tt) D zCl A) args s 0 0 A) (F0 m 51 ls [.int y_17, .int x3_9]) := by
          intro y_17 H locs hP hD hS ls hl hrun
          rw [hK_18] at hrun
          obtain ⟨K_22, hK_22, hrun⟩ := mjn_s hrun
          have hj_20 : ∀ (t_21 : Tw), ∀ (H : Heap) (locs : List Loc), va_P D zCl (cT k a t_21) H → va_D A (cT k a t_21) → va_S A s.heap H locs → ∀ ls : Array Slot, lv_has ls 4 [(0, .ref (a 0)), (1, .int (bz p1)), (2, .int (bz x2_8)), (3, .int x3_9)] → K_22 t_21 = some (r, tt) → W p l e rX6_read s m args below meth c H locs 0 0 (MQ below (QWr (fun r' w' => r' = (some (.int r)) ∧ w' = cT k a tt) D zCl A) args s 0 0 A) (F0 m 80 ls []) := by
            intro t_21 H locs hP hD hS ls hl hrun
            rw [hK_22] at hrun
            refine lv_iinc (v := (x3_9 + (1 : Int32))) (lv' := [(3, .int (x3_9 + (1 : Int32))), (0, .ref (a 0)), (1, .int (bz p1)), (2, .int (bz x2_8))]) hx hb dX6_read_80 hl (k := 3) rfl rfl (by decide) rfl (fun ls hl => ?_)
            refine lv_aload_n hx hb dX6_read_83 rfl (lv_at hl 1 rfl) ?_
            obtain ⟨t_24, hc_23, hrun⟩ := mob_s rfl hrun
            refine cWV00 (As := []) (ci := 0) ⟨hx, hb, hml, hown, hts⟩ hOK hz hS hA hP hD (mtX6_skip l D k a Z hOK _ _ hc_23) (kX6_skip hts q2000 rfl rfl ⟨Nat.le_of_ble_eq_true rfl, Nat.le_of_ble_eq_true rfl⟩) 0 rfl rfl rfl hl.1 rfl (lv_room (Nat.le_of_ble_eq_true rfl)) ⟨Nat.le_of_ble_eq_true rfl, Nat.le_of_ble_eq_true rfl⟩ dX6_read_84 (fun r_ w_ H locs hq hP hD hS => ?_)
            obtain ⟨rfl, rfl⟩ := hq
            refine lv_aload_n hx hb dX6_read_87 rfl (lv_at hl 1 rfl) ?_
            refine va_get (ci := 0) (v := .int (tw_fault t_24)) (C := RX6) (T := TX6) (N := 22) hx hb hts in_X6 hown hK hP 0 rfl rfl 12 (by decide) (hts _ q1914) (fun _ h9 => h9) rfl dX6_read_88 ?_
            refine lv_iconst (v := (-1 : Int32)) hx hb dX6_read_91 (by decide) ?_
            refine lv_icmp_ne (tgt := 106) hx hb dX6_read_92 (by decide) (fun c_25 => ?_) (fun c_25 => ?_)
            · have hrun := mif_n c_25 hrun
              refine lv_iconst (v := (0 : Int32)) hx hb dX6_read_106 (by decide) ?_
              refine lv_istore_n (lv' := [(2, .int (0 : Int32)), (3, .int (x3_9 + (1 : Int32))), (0, .ref (a 0)), (1, .int (bz p1))]) hx hb dX6_read_107 rfl hl (by decide) rfl (fun ls hl => ?_)
              refine lv_goto (tgt := 23) hx hb dX6_read_108 (by decide) ?_
              exact ih false (x3_9 + (1 : Int32)) t_24 _ _ hP hD hS ls (lv_sub hl [2, 3, 0, 1] rfl) hrun
            have hrun := mif_p c_25 hrun
            refine lv_aload_n hx hb dX6_read_95 rfl (lv_at hl 1 rfl) ?_
            refine va_get (ci := 0) (v := .int (tw_at_ t_24)) (C := RX6) (T := TX6) (N := 22) hx hb hts in_X6 hown hK hP 0 rfl rfl 11 (by decide) (hts _ q1913) (fun _ h9 => h9) rfl dX6_read_96 ?_
            refine lv_aload_n hx hb dX6_read_99 rfl (lv_at hl 1 rfl) ?_
            refine va_get (ci := 0) (v := .int (tw_end_ t_24)) (C := RX6) (T := TX6) (N := 22) hx hb hts in_X6 hown hK hP 0 rfl rfl 10 (by decide) (hts _ q1912) (fun _ h9 => h9) rfl dX6_read_100 ?_
            refine lv_icmp_ne (tgt := 111) hx hb dX6_read_103 (by decide) (fun c_26 => ?_) (fun c_26 => ?_)
            · have hrun := mif_n c_26 hrun
              refine lv_aload_n hx hb dX6_read_111 rfl (lv_at hl 1 rfl) ?_
              refine lv_bipush (v := (59 : Int32)) hx hb dX6_read_112 (by decide) ?_
              obtain ⟨r_29, t_28, hc_27, hrun⟩ := mo2_s rfl hrun
              refine cWV00 (As := [.int (59 : Int32)]) (ci := 0) ⟨hx, hb, hml, hown, hts⟩ hOK hz hS hA hP hD (mtX6_isSign l D k a Z hOK _ _ _ _ hc_27) (kX6_isSign hts q2056 rfl rfl ⟨Nat.le_of_ble_eq_true rfl, Nat.le_of_ble_eq_true rfl⟩) 0 rfl rfl rfl hl.1 rfl (lv_room (Nat.le_of_ble_eq_true rfl)) ⟨Nat.le_of_ble_eq_true rfl, Nat.le_of_ble_eq_true rfl⟩ dX6_read_114 (fun r_ w_ H locs hq hP hD hS => ?_)
              obtain ⟨rfl, rfl⟩ := hq
              refine lv_if_eq (tgt := 133) hx hb dX6_read_117 (by decide) (fun c_30 => ?_) (fun c_30 => ?_)
              · have hrun := mif_n (bz_z c_30) hrun
                refine lv_aload_n hx hb dX6_read_133 rfl (lv_at hl 1 rfl) ?_
                refine lv_aload_n hx hb dX6_read_134 rfl (lv_at hl 1 rfl) ?_
                refine va_get (ci := 0) (v := .int (tw_at_ t_28)) (C := RX6) (T := TX6) (N := 22) hx hb hts in_X6 hown hK hP 0 rfl rfl 11 (by decide) (hts _ q1913) (fun _ h9 => h9) rfl dX6_read_135 ?_
                obtain ⟨t_32, hc_31, hrun⟩ := mob_s rfl hrun
                refine cWV00 (As := [.int (tw_at_ t_28)]) (ci := 0) ⟨hx, hb, hml, hown, hts⟩ hOK hz hS hA hP hD (mtX6_wrong l D k a Z hOK _ _ _ hc_31) (kX6_wrong hts q2008 rfl rfl ⟨Nat.le_of_ble_eq_true rfl, Nat.le_of_ble_eq_true rfl⟩) 0 rfl rfl rfl hl.1 rfl (lv_room (Nat.le_of_ble_eq_true rfl)) ⟨Nat.le_of_ble_eq_true rfl, Nat.le_of_ble_eq_true rfl⟩ dX6_read_138 (fun r_ w_ H locs hq hP hD hS => ?_)
                obtain ⟨rfl, rfl⟩ := hq
                refine lv_goto (tgt := 23) hx hb dX6_read_141 (by decide) ?_
                exact ih x2_8 (x3_9 + (1 : Int32)) t_32 _ _ hP hD hS ls (lv_sub hl [1, 2, 3, 0] rfl) hrun
              have hrun := mif_p (bz_nz c_30) hrun
              refine lv_aload_n hx hb dX6_read_120 rfl (lv_at hl 1 rfl) ?_
              refine lv_dup hx hb dX6_read_121 rfl ?_
              refine va_get (ci := 0) (v := .int (tw_at_ t_28)) (C := RX6) (T := TX6) (N := 22) hx hb hts in_X6 hown hK hP 0 rfl rfl 11 (by decide) (hts _ q1913) (fun _ h9 => h9) rfl dX6_read_122 ?_
              refine lv_iconst (v := (1 : Int32)) hx hb dX6_read_125 (by decide) ?_
              refine lv_iadd hx hb dX6_read_126 ?_
              refine va_put (ci := 0) (v := .int ((tw_at_ t_28) + (1 : Int32))) (ty := tyX6 11) (C := RX6) (T := TX6) (N := 22) hx hb hts in_X6 tyX6 tyX6_ok nmX6 hown hK hP hD hS 0 rfl rfl 11 (by decide) (hts _ q1913) (fun _ h9 => h9) rfl (tyX6_ok 11 (by decide)) rfl rfl (Nat.le_of_ble_eq_true rfl) dX6_read_127 (fun H locs hP hD hS => ?_)
              have hP : va_P D zCl (cT k a (tw_s_at_ t_28 ((tw_at_ t_28) + (1 : Int32)))) H := hP
              have hD : va_D A (cT k a (tw_s_at_ t_28 ((tw_at_ t_28) + (1 : Int32)))) := hD
              obtain ⟨t_33, et_33⟩ : ∃ z : Tw, z = (tw_s_at_ t_28 ((tw_at_ t_28) + (1 : Int32))) := ⟨_, rfl⟩
              rw [← et_33] at hP hD
              have hrun := mlt_s hrun t_33 et_33
              refine lv_goto (tgt := 23) hx hb dX6_read_130 (by decide) ?_
              exact ih x2_8 (x3_9 + (1 : Int32)) t_33 _ _ hP hD hS ls (lv_sub hl [1, 2, 3, 0] rfl) hrun
            have hrun := mif_p c_26 hrun
            refine lv_iconst (v := (0 : Int32)) hx hb dX6_read_106 (by decide) ?_
            refine lv_istore_n (lv' := [(2, .int (0 : Int32)), (3, .int (x3_9 + (1 : Int32))), (0, .ref (a 0)), (1, .int (bz p1))]) hx hb dX6_read_107 rfl hl (by decide) rfl (fun ls hl => ?_)
            refine lv_goto (tgt := 23) hx hb dX6_read_108 (by decide) ?_
            exact ih false (x3_9 + (1 : Int32)) t_24 _ _ hP hD hS ls (lv_sub hl [2, 3, 0, 1] rfl) hrun
          refine lv_icmp_ne (tgt := 65) hx hb dX6_read_51 (by decide) (fun c_19 => ?_) (fun c_19 => ?_)
          · have hrun := mif_n c_19 hrun
            refine lv_iload_n hx hb dX6_read_65 rfl (lv_at hl 1 rfl) ?_
            refine lv_if_eq (tgt := 76) hx hb dX6_read_66 (by decide) (fun c_34 => ?_) (fun c_34 => ?_)
            · have hrun := mif_n (bz_z c_34) hrun
              refine lv_aload_n hx hb dX6_read_76 rfl (lv_at hl 0 rfl) ?_
              obtain ⟨t_36, hc_35, hrun⟩ := mob_s rfl hrun
              refine cWV00 (As := []) (ci := 0) ⟨hx, hb, hml, hown, hts⟩ hOK hz hS hA hP hD (mtX6_houseLine l D k a Z hOK hStr _ _ hc_35) (kX6_houseLine hts q2083 rfl rfl ⟨Nat.le_of_ble_eq_true rfl, Nat.le_of_ble_eq_true rfl⟩) 0 rfl rfl rfl hl.1 rfl (lv_room (Nat.le_of_ble_eq_true rfl)) ⟨Nat.le_of_ble_eq_true rfl, Nat.le_of_ble_eq_true rfl⟩ dX6_read_77 (fun r_ w_ H locs hq hP hD hS => ?_)
              obtain ⟨rfl, rfl⟩ := hq
              exact hj_20 t_36 _ _ hP hD hS ls (lv_sub hl [0, 1, 2, 3] rfl) hrun
            have hrun := mif_p (bz_nz c_34) hrun
            refine lv_aload_n hx hb dX6_read_69 rfl (lv_at hl 0 rfl) ?_
            obtain ⟨t_38, hc_37, hrun⟩ := mob_s rfl hrun
            refine cWV00 (As := []) (ci := 0) ⟨hx, hb, hml, hown, hts⟩ hOK hz hS hA hP hD (mtX6_lawLine l D k a Z hOK hStr _ _ hc_37) (kX6_lawLine hts q2012 rfl rfl ⟨Nat.le_of_ble_eq_true rfl, Nat.le_of_ble_eq_true rfl⟩) 0 rfl rfl rfl hl.1 rfl (lv_room (Nat.le_of_ble_eq_true rfl)) ⟨Nat.le_of_ble_eq_true rfl, Nat.le_of_ble_eq_true rfl⟩ dX6_read_70 (fun r_ w_ H locs hq hP hD hS => ?_)
            obtain ⟨rfl, rfl⟩ := hq
            refine lv_goto (tgt := 80) hx hb dX6_read_73 (by decide) ?_
            exact hj_20 t_38 _ _ hP hD hS ls (lv_sub hl [0, 1, 2, 3] rfl) hrun
          have hrun := mif_p c_19 hrun
          refine lv_aload_n hx hb dX6_read_54 rfl (lv_at hl 0 rfl) ?_
          refine lv_aload_n hx hb dX6_read_55 rfl (lv_at hl 0 rfl) ?_
          refine va_get (ci := 0) (v := .int (tw_at_ t_14)) (C := RX6) (T := TX6) (N := 22) hx hb hts in_X6 hown hK hP 0 rfl rfl 11 (by decide) (hts _ q1913) (fun _ h9 => h9) rfl dX6_read_56 ?_
          obtain ⟨t_40, hc_39, hrun⟩ := mob_s rfl hrun
          refine cWV00 (As := [.int (tw_at_ t_14)]) (ci := 0) ⟨hx, hb, hml, hown, hts⟩ hOK hz hS hA hP hD (mtX6_wrong l D k a Z hOK _ _ _ hc_39) (kX6_wrong hts q2008 rfl rfl ⟨Nat.le_of_ble_eq_true rfl, Nat.le_of_ble_eq_true rfl⟩) 0 rfl rfl rfl hl.1 rfl (lv_room (Nat.le_of_ble_eq_true rfl)) ⟨Nat.le_of_ble_eq_true rfl, Nat.le_of_ble_eq_true rfl⟩ dX6_read_59 (fun r_ w_ H locs hq hP hD hS => ?_)
          obtain ⟨rfl, rfl⟩ := hq
          refine lv_goto (tgt := 80) hx hb dX6_read_62 (by decide) ?_
          exact hj_20 t_40 _ _ hP hD hS ls (lv_sub hl [0, 1, 2, 3] rfl) hrun
        refine lv_if_eq (tgt := 49) hx hb dX6_read_41 (by decide) (fun c_15 => ?_) (fun c_15 => ?_)
        · have hrun := mif_n (bz_z c_15) hrun
          refine lv_bipush (v := (14 : Int32)) hx hb dX6_read_49 (by decide) ?_
          exact hj_16 (14 : Int32) _ _ hP hD hS ls (lv_sub hl [0, 1, 2, 3] rfl) hrun
        have hrun := mif_p (bz_nz c_15) hrun
        refine lv_bipush (v := (12 : Int32)) hx hb dX6_read_44 (by decide) ?_
        refine lv_goto (tgt := 51) hx hb dX6_read_46 (by decide) ?_
        exact hj_16 (12 : Int32) _ _ hP hD hS ls (lv_sub hl [0, 1, 2, 3] rfl) hrun
    exact hL_7 mFU y_5 (0 : Int32) t_2 _ _ hP hD hS ls (lv_sub hl [2, 3, 1, 0] rfl) hrun
  refine lv_icmp_ge (tgt := 19) hx hb dX6_read_12 (by decide) (fun c_3 => ?_) (fun c_3 => ?_)
  · have hrun := mif_p c_3 hrun
    refine lv_iconst (v := (0 : Int32)) hx hb dX6_read_19 (by decide) ?_
    exact hj_4 false _ _ hP hD hS ls (lv_sub hl [0, 1] rfl) hrun
  have hrun := mif_n c_3 hrun
  refine lv_iconst (v := (1 : Int32)) hx hb dX6_read_15 (by decide) ?_
  refine lv_goto (tgt := 20) hx hb dX6_read_16 (by decide) ?_
  exact hj_4 true _ _ hP hD hS ls (lv_sub hl [0, 1] rfl) hrun
def rX6_law : Room := { frames := 38, cells := 0, slots := 0, locals := 1031 }
noncomputable def fX6_law_L55 (K_16 : Tw → Option (Int32 × Tw)) : Nat → Int32 → Tw → Option (Int32 × Tw)
  | 0, _, _ => none
  | n + 1, x2_19, t_20 =>
    if (tw_end_ t_20) ≤ x2_19 then
      K_16 t_20
    else
      mck x2_19 400 <|
      mck ((304 : Int32) + x2_19) 704 <|
      mlt (tw_s_m t_20 (upd (tw_m t_20) (Int32.toNatClampNeg ((304 : Int32) + x2_19)) ((tw_tape t_20) (Int32.toNatClampNeg x2_19)))) fun t_24 =>
      fX6_law_L55 K_16 n (x2_19 + (1 : Int32)) t_24
noncomputable def fX6_law (t : Tw) : Option (Int32 × Tw) :=
  mob (fX6_begins t) fun t_2 =>
  mo2 (fX6_read t_2 true) fun r_5 t_4 =>
  mjn (fun (y_8 : Bool) =>
  mlt (tw_s_thrown t_4 (bz y_8)) fun t_10 =>
  if (tw_thrown t_10) ≤ (0 : Int32) then
    mlt (tw_s_m t_10 (upd (tw_m t_10) 1 r_5)) fun t_12 =>
    mlt (tw_s_m t_12 (upd (tw_m t_12) 2 (tw_end_ t_12))) fun t_13 =>
    mjn (fun (t_15 : Tw) =>
    mlt (tw_s_acted t_15 (0 : Int32)) fun t_17 =>
    some (r_5, t_17)) fun K_16 =>
    fX6_law_L55 K_16 mFU (0 : Int32) t_13
  else
    some ((0 : Int32), t_10)) fun K_9 =>
  if (tw_fault t_4) = (-1 : Int32) then
    K_9 false
  else
    K_9 true
theorem kX6_law {R : Room} {s : State} {args : Array Value} {own : String} {idx mc ms : Nat} {rm : Room} (hts : ∀ w ∈ lw_all, w.before args s = true) (hl : Cond.methodLink own idx yX6_law ∈ lw_all) (hrc : rm.cells = mc) (hrs : rm.slots = ms) (hR : rm.frames + 1 ≤ R.frames ∧ 8 + (3 + 11) + rm.locals ≤ R.locals) : CallW R s args own RX6 idx yX6_law cX6_law 3 (some .int) (ws_ yX6_law cX6_law 3 (some .int)) rm mc ms 0 :=
  cwV 0 hts (lw_V hl q2121 q2122 q115 q2123) rfl hrc hrs (by decide +kernel) hR
set_option maxHeartbeats 4000000 in
set_option maxRecDepth 100000 in
theorem mtX6_law (l : Launch) (D : va_G) (k : Nat → ClassId) (a : Nat → Nat) (Z : zZ) (hOK : zOK D zCl (zTys k) Z) {adK adV : Nat → Nat} (hStr : zStr Z adK adV) (t : Tw) (r : Int32) (tt : Tw) (hrun : fX6_law t = some (r, tt)) :
    CtW l yX6_law cX6_law 3 (some .int) rX6_law Z D zCl (cT k a t) [.ref (a 0)] (fun r' w' => r' = (some (.int r)) ∧ w' = cT k a tt) 0 0 := by
  refine CtW.of (by decide) (Nat.le_of_ble_eq_true rfl) ?_
  intro p e s m args below meth c A hE hA hP hD hS hz ls hl
  obtain ⟨hx, hb, hr, hml, hown, hts, hlocks, hname⟩ := hE
  have hown : s.vm.findClass RX6 = some m.cls := hown
  have hK := hOK.1 _ _ _ hz
  have hl : lv_has ls 3 [(0, .ref (a 0))] := hl
  unfold fX6_law at hrun
  refine lv_aload_n hx hb dX6_law_0 rfl (lv_at hl 0 rfl) ?_
  obtain ⟨t_2, hc_1, hrun⟩ := mob_s rfl hrun
  refine cWV00 (As := []) (ci := 0) ⟨hx, hb, hml, hown, hts⟩ hOK hz hS hA hP hD (mtX6_begins l D k a Z hOK _ _ hc_1) (kX6_begins hts q1992 rfl rfl ⟨Nat.le_of_ble_eq_true rfl, Nat.le_of_ble_eq_true rfl⟩) 0 rfl rfl rfl hl.1 rfl (lv_room (Nat.le_of_ble_eq_true rfl)) ⟨Nat.le_of_ble_eq_true rfl, Nat.le_of_ble_eq_true rfl⟩ dX6_law_1 (fun r_ w_ H locs hq hP hD hS => ?_)
  obtain ⟨rfl, rfl⟩ := hq
  refine lv_aload_n hx hb dX6_law_4 rfl (lv_at hl 0 rfl) ?_
  refine lv_iconst (v := (1 : Int32)) hx hb dX6_law_5 (by decide) ?_
  obtain ⟨r_5, t_4, hc_3, hrun⟩ := mo2_s rfl hrun
  refine cWV00 (As := [.int (bz true)]) (ci := 0) ⟨hx, hb, hml, hown, hts⟩ hOK hz hS hA hP hD (mtX6_read l D k a Z hOK hStr _ _ _ _ hc_3) (kX6_read hts q1996 rfl rfl ⟨Nat.le_of_ble_eq_true rfl, Nat.le_of_ble_eq_true rfl⟩) 0 rfl rfl rfl hl.1 rfl (lv_room (Nat.le_of_ble_eq_true rfl)) ⟨Nat.le_of_ble_eq_true rfl, Nat.le_of_ble_eq_true rfl⟩ dX6_law_6 (fun r_ w_ H locs hq hP hD hS => ?_)
  obtain ⟨rfl, rfl⟩ := hq
  refine lv_istore_n (lv' := [(1, .int r_5), (0, .ref (a 0))]) hx hb dX6_law_9 rfl hl (by decide) rfl (fun ls hl => ?_)
  refine lv_aload_n hx hb dX6_law_10 rfl (lv_at hl 1 rfl) ?_
  refine lv_aload_n hx hb dX6_law_11 rfl (lv_at hl 1 rfl) ?_
  refine va_get (ci := 0) (v := .int (tw_fault t_4)) (C := RX6) (T := TX6) (N := 22) hx hb hts in_X6 hown hK hP 0 rfl rfl 12 (by decide) (hts _ q1914) (fun _ h9 => h9) rfl dX6_law_12 ?_
  refine lv_iconst (v := (-1 : Int32)) hx hb dX6_law_15 (by decide) ?_
  obtain ⟨K_9, hK_9, hrun⟩ := mjn_s hrun
  have hj_7 : ∀ (y_8 : Bool), ∀ (H : Heap) (locs : List Loc), va_P D zCl (cT k a t_4) H → va_D A (cT k a t_4) → va_S A s.heap H locs → ∀ ls : Array Slot, lv_has ls 3 [(0, .ref (a 0)), (1, .int r_5)] → K_9 y_8 = some (r, tt) → W p l e rX6_law s m args below meth c H locs 0 0 (MQ below (QWr (fun r' w' => r' = (some (.int r)) ∧ w' = cT k a tt) D zCl A) args s 0 0 A) (F0 m 24 ls [.int (bz y_8), .ref (a 0)]) := by
    intro y_8 H locs hP hD hS ls hl hrun
    rw [hK_9] at hrun
    refine va_put (ci := 0) (v := .int (bz y_8)) (ty := tyX6 0) (C := RX6) (T := TX6) (N := 22) hx hb hts in_X6 tyX6 tyX6_ok nmX6 hown hK hP hD hS 0 rfl rfl 0 (by decide) (hts _ q1902) (fun _ h9 => h9) rfl (tyX6_ok 0 (by decide)) rfl rfl (Nat.le_of_ble_eq_true rfl) dX6_law_24 (fun H locs hP hD hS => ?_)
    have hP : va_P D zCl (cT k a (tw_s_thrown t_4 (bz y_8))) H := hP
    have hD : va_D A (cT k a (tw_s_thrown t_4 (bz y_8))) := hD
    obtain ⟨t_10, et_10⟩ : ∃ z : Tw, z = (tw_s_thrown t_4 (bz y_8)) := ⟨_, rfl⟩
    rw [← et_10] at hP hD
    have hrun := mlt_s hrun t_10 et_10
    refine lv_aload_n hx hb dX6_law_27 rfl (lv_at hl 0 rfl) ?_
    refine va_get (ci := 0) (v := .int (tw_thrown t_10)) (C := RX6) (T := TX6) (N := 22) hx hb hts in_X6 hown hK hP 0 rfl rfl 0 (by decide) (hts _ q1902) (fun _ h9 => h9) rfl dX6_law_28 ?_
    refine lv_if_le (tgt := 36) hx hb dX6_law_31 (by decide) (fun c_11 => ?_) (fun c_11 => ?_)
    · have hrun := mif_p c_11 hrun
      refine lv_aload_n hx hb dX6_law_36 rfl (lv_at hl 0 rfl) ?_
      refine va_get (ci := 0) (v := .ref (a 1)) (C := RX6) (T := TX6) (N := 22) hx hb hts in_X6 hown hK hP 0 rfl rfl 1 (by decide) (hts _ q1903) (fun _ h9 => h9) rfl dX6_law_37 ?_
      refine lv_iconst (v := (1 : Int32)) hx hb dX6_law_40 (by decide) ?_
      refine lv_iload_n hx hb dX6_law_41 rfl (lv_at hl 1 rfl) ?_
      refine va_iastk (k := 1) hx hb hK hP hD hS 1 0 rfl rfl rfl (show ¬ _ from by decide) dX6_law_42 (fun H locs hP hD hS => ?_)
      have hP : va_P D zCl (cT k a (tw_s_m t_10 (upd (tw_m t_10) 1 r_5))) H := hP
      have hD : va_D A (cT k a (tw_s_m t_10 (upd (tw_m t_10) 1 r_5))) := hD
      obtain ⟨t_12, et_12⟩ : ∃ z : Tw, z = (tw_s_m t_10 (upd (tw_m t_10) 1 r_5)) := ⟨_, rfl⟩
      rw [← et_12] at hP hD
      have hrun := mlt_s hrun t_12 et_12
      refine lv_aload_n hx hb dX6_law_43 rfl (lv_at hl 0 rfl) ?_
      refine va_get (ci := 0) (v := .ref (a 1)) (C := RX6) (T := TX6) (N := 22) hx hb hts in_X6 hown hK hP 0 rfl rfl 1 (by decide) (hts _ q1903) (fun _ h9 => h9) rfl dX6_law_44 ?_
      refine lv_iconst (v := (2 : Int32)) hx hb dX6_law_47 (by decide) ?_
      refine lv_aload_n hx hb dX6_law_48 rfl (lv_at hl 0 rfl) ?_
      refine va_get (ci := 0) (v := .int (tw_end_ t_12)) (C := RX6) (T := TX6) (N := 22) hx hb hts in_X6 hown hK hP 0 rfl rfl 10 (by decide) (hts _ q1912) (fun _ h9 => h9) rfl dX6_law_49 ?_
      refine va_iastk (k := 2) hx hb hK hP hD hS 1 0 rfl rfl rfl (show ¬ _ from by decide) dX6_law_52 (fun H locs hP hD hS => ?_)
      have hP : va_P D zCl (cT k a (tw_s_m t_12 (upd (tw_m t_12) 2 (tw_end_ t_12)))) H := hP
      have hD : va_D A (cT k a (tw_s_m t_12 (upd (tw_m t_12) 2 (tw_end_ t_12)))) := hD
      obtain ⟨t_13, et_13⟩ : ∃ z : Tw, z = (tw_s_m t_12 (upd (tw_m t_12) 2 (tw_end_ t_12))) := ⟨_, rfl⟩
      rw [← et_13] at hP hD
      have hrun := mlt_s hrun t_13 et_13
      refine lv_iconst (v := (0 : Int32)) hx hb dX6_law_53 (by decide) ?_
      refine lv_istore_n (lv' := [(2, .int (0 : Int32)), (0, .ref (a 0)), (1, .int r_5)]) hx hb dX6_law_54 rfl hl (by decide) rfl (fun ls hl => ?_)
      obtain ⟨K_16, hK_16, hrun⟩ := mjn_s hrun
      have hj_14 : ∀ (t_15 : Tw), ∀ (H : Heap) (locs : List Loc), va_P D zCl (cT k a t_15) H → va_D A (cT k a t_15) → va_S A s.heap H locs → ∀ ls : Array Slot, lv_has ls 3 [(0, .ref (a 0)), (1, .int r_5)] → K_16 t_15 = some (r, tt) → W p l e rX6_law s m args below meth c H locs 0 0 (MQ below (QWr (fun r' w' => r' = (some (.int r)) ∧ w' = cT k a tt) D zCl A) args s 0 0 A) (F0 m 85 ls []) := by
        intro t_15 H locs hP hD hS ls hl hrun
        rw [hK_16] at hrun
        refine lv_aload_n hx hb dX6_law_85 rfl (lv_at hl 0 rfl) ?_
        refine lv_iconst (v := (0 : Int32)) hx hb dX6_law_86 (by decide) ?_
        refine va_put (ci := 0) (v := .int (0 : Int32)) (ty := tyX6 6) (C := RX6) (T := TX6) (N := 22) hx hb hts in_X6 tyX6 tyX6_ok nmX6 hown hK hP hD hS 0 rfl rfl 6 (by decide) (hts _ q1908) (fun _ h9 => h9) rfl (tyX6_ok 6 (by decide)) rfl rfl (Nat.le_of_ble_eq_true rfl) dX6_law_87 (fun H locs hP hD hS => ?_)
        have hP : va_P D zCl (cT k a (tw_s_acted t_15 (0 : Int32))) H := hP
        have hD : va_D A (cT k a (tw_s_acted t_15 (0 : Int32))) := hD
        obtain ⟨t_17, et_17⟩ : ∃ z : Tw, z = (tw_s_acted t_15 (0 : Int32)) := ⟨_, rfl⟩
        rw [← et_17] at hP hD
        have hrun := mlt_s hrun t_17 et_17
        refine lv_iload_n hx hb dX6_law_90 rfl (lv_at hl 1 rfl) ?_
        cases hrun
        exact retW_i hx hb hr hlocks hP hD hS ⟨rfl, rfl⟩ dX6_law_91
      have hL_18 : ∀ n : Nat, ∀ (x2_19 : Int32) (t_20 : Tw), ∀ (H : Heap) (locs : List Loc), va_P D zCl (cT k a t_20) H → va_D A (cT k a t_20) → va_S A s.heap H locs → ∀ ls : Array Slot, lv_has ls 3 [(0, .ref (a 0)), (1, .int r_5), (2, .int x2_19)] → fX6_law_L55 K_16 n x2_19 t_20 = some (r, tt) → W p l e rX6_law s m args below meth c H locs 0 0 (MQ below (QWr (fun r' w' => r' = (some (.int r)) ∧ w' = cT k a tt) D zCl A) args s 0 0 A) (F0 m 55 ls []) := by
        intro n
        induction n with
        | zero =>
          intro x2_19 t_20 H locs hP hD hS ls hl hrun
          exact nomatch hrun
        | succ n ih =>
          intro x2_19 t_20 H locs hP hD hS ls hl hrun
          rw [fX6_law_L55.eq_2] at hrun
          refine lv_iload_n hx hb dX6_law_55 rfl (lv_at hl 2 rfl) ?_
          refine lv_aload_n hx hb dX6_law_56 rfl (lv_at hl 0 rfl) ?_
          refine va_get (ci := 0) (v := .int (tw_end_ t_20)) (C := RX6) (T := TX6) (N := 22) hx hb hts in_X6 hown hK hP 0 rfl rfl 10 (by decide) (hts _ q1912) (fun _ h9 => h9) rfl dX6_law_57 ?_
          refine lv_icmp_ge (tgt := 85) hx hb dX6_law_60 (by decide) (fun c_21 => ?_) (fun c_21 => ?_)
          · have hrun := mif_p c_21 hrun
            exact hj_14 t_20 _ _ hP hD hS ls (lv_sub hl [0, 1] rfl) hrun
          have hrun := mif_n c_21 hrun
          refine lv_aload_n hx hb dX6_law_63 rfl (lv_at hl 0 rfl) ?_
          refine va_get (ci := 0) (v := .ref (a 1)) (C := RX6) (T := TX6) (N := 22) hx hb hts in_X6 hown hK hP 0 rfl rfl 1 (by decide) (hts _ q1903) (fun _ h9 => h9) rfl dX6_law_64 ?_
          refine lv_sipush (v := (304 : Int32)) hx hb dX6_law_67 (by decide) ?_
          refine lv_iload_n hx hb dX6_law_70 rfl (lv_at hl 2 rfl) ?_
          refine lv_iadd hx hb dX6_law_71 ?_
          refine lv_aload_n hx hb dX6_law_72 rfl (lv_at hl 0 rfl) ?_
          refine va_get (ci := 0) (v := .ref (a 5)) (C := RX6) (T := TX6) (N := 22) hx hb hts in_X6 hown hK hP 0 rfl rfl 7 (by decide) (hts _ q1909) (fun _ h9 => h9) rfl dX6_law_73 ?_
          refine lv_iload_n hx hb dX6_law_76 rfl (lv_at hl 2 rfl) ?_
          obtain ⟨hb_22, hrun⟩ := mck_s rfl hrun
          refine va_iald hx hb hK hP 5 0 rfl rfl hb_22 dX6_law_77 ?_
          obtain ⟨hb_23, hrun⟩ := mck_s rfl hrun
          refine va_iast hx hb hK hP hD hS 1 0 rfl rfl hb_23 dX6_law_78 (fun H locs hP hD hS => ?_)
          have hP : va_P D zCl (cT k a (tw_s_m t_20 (upd (tw_m t_20) (Int32.toNatClampNeg ((304 : Int32) + x2_19)) ((tw_tape t_20) (Int32.toNatClampNeg x2_19))))) H := hP
          have hD : va_D A (cT k a (tw_s_m t_20 (upd (tw_m t_20) (Int32.toNatClampNeg ((304 : Int32) + x2_19)) ((tw_tape t_20) (Int32.toNatClampNeg x2_19))))) := hD
          obtain ⟨t_24, et_24⟩ : ∃ z : Tw, z = (tw_s_m t_20 (upd (tw_m t_20) (Int32.toNatClampNeg ((304 : Int32) + x2_19)) ((tw_tape t_20) (Int32.toNatClampNeg x2_19)))) := ⟨_, rfl⟩
          rw [← et_24] at hP hD
          have hrun := mlt_s hrun t_24 et_24
          refine lv_iinc (v := (x2_19 + (1 : Int32))) (lv' := [(2, .int (x2_19 + (1 : Int32))), (0, .ref (a 0)), (1, .int r_5)]) hx hb dX6_law_79 hl (k := 2) rfl rfl (by decide) rfl (fun ls hl => ?_)
          refine lv_goto (tgt := 55) hx hb dX6_law_82 (by decide) ?_
          exact ih (x2_19 + (1 : Int32)) t_24 _ _ hP hD hS ls (lv_sub hl [1, 2, 0] rfl) hrun
      exact hL_18 mFU (0 : Int32) t_13 _ _ hP hD hS ls (lv_sub hl [1, 2, 0] rfl) hrun
    have hrun := mif_n c_11 hrun
    refine lv_iconst (v := (0 : Int32)) hx hb dX6_law_34 (by decide) ?_
    cases hrun
    exact retW_i hx hb hr hlocks hP hD hS ⟨rfl, rfl⟩ dX6_law_35
  refine lv_icmp_eq (tgt := 23) hx hb dX6_law_16 (by decide) (fun c_6 => ?_) (fun c_6 => ?_)
  · have hrun := mif_p c_6 hrun
    refine lv_iconst (v := (0 : Int32)) hx hb dX6_law_23 (by decide) ?_
    exact hj_7 false _ _ hP hD hS ls (lv_sub hl [1, 0] rfl) hrun
  have hrun := mif_n c_6 hrun
  refine lv_iconst (v := (1 : Int32)) hx hb dX6_law_19 (by decide) ?_
  refine lv_goto (tgt := 24) hx hb dX6_law_20 (by decide) ?_
  exact hj_7 true _ _ hP hD hS ls (lv_sub hl [1, 0] rfl) hrun
