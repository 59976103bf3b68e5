/-! walks: X6_count, X6_figures -/
def rX6_count : Room := { frames := 3, cells := 0, slots := 0, locals := 65 }
noncomputable def fX6_count (t : Tw) (p1 : Int32) : Option (Int32 × Tw) :=
  mlt (tw_s_thrown t (0 : Int32)) fun t_1 =>
  if p1 = (0 : Int32) then
    some (((tw_m t_1) 3), t_1)
  else
    if p1 = (1 : Int32) then
      some (((tw_m t_1) 0), t_1)
    else
      if p1 = (2 : Int32) then
        some (((tw_m t_1) 1), t_1)
      else
        if p1 = (3 : Int32) then
          some (((tw_m t_1) 10), t_1)
        else
          mob (fX6_isIn p1 (4 : Int32) (9 : Int32)) fun r_7 =>
          if r_7 = true then
            mck (((4 : Int32) + p1) - (4 : Int32)) 704 <|
            some (((tw_m t_1) (Int32.toNatClampNeg (((4 : Int32) + p1) - (4 : Int32)))), t_1)
          else
            if p1 = (10 : Int32) then
              some (((tw_m t_1) 11), t_1)
            else
              if p1 = (11 : Int32) then
                mob (fX6_holes t_1) fun r_20 =>
                some (r_20, t_1)
              else
                if p1 = (12 : Int32) then
                  mob (fX6_hereOnes t_1) fun r_18 =>
                  some (r_18, t_1)
                else
                  if p1 = (13 : Int32) then
                    mob (fX6_doubts t_1) fun r_16 =>
                    some (r_16, t_1)
                  else
                    if p1 = (14 : Int32) then
                      some (((tw_m t_1) 14), t_1)
                    else
                      if p1 = (15 : Int32) then
                        some ((tw_acted t_1), t_1)
                      else
                        some ((-1 : Int32), t_1)
theorem kX6_count {R : Room} {s : State} {args : Array Value} {own : String} {idx mc ms : Nat} {rm : Room} (hts : ∀ w ∈ lw_all, w.before args s = true) (hl : Cond.methodLink own idx yX6_count ∈ lw_all) (hrc : rm.cells = mc) (hrs : rm.slots = ms) (hR : rm.frames + 1 ≤ R.frames ∧ 8 + (2 + 11) + rm.locals ≤ R.locals) : CallW R s args own RX6 idx yX6_count cX6_count 2 (some .int) (ws_ yX6_count cX6_count 2 (some .int)) rm mc ms 1 :=
  cwV 1 hts (lw_V hl q2484 q2485 q115 q2486) rfl hrc hrs (by decide +kernel) hR
set_option maxHeartbeats 4000000 in
set_option maxRecDepth 100000 in
theorem mtX6_count (l : Launch) (D : va_G) (k : Nat → ClassId) (a : Nat → Nat) (Z : zZ) (hOK : zOK D zCl (zTys k) Z) (t : Tw) (p1 : Int32) (r : Int32) (tt : Tw) (hrun : fX6_count t p1 = some (r, tt)) :
    CtW l yX6_count cX6_count 2 (some .int) rX6_count Z D zCl (cT k a t) [.ref (a 0), .int p1] (fun r' w' => r' = (some (.int r)) ∧ w' = cT k a tt) 0 0 := by
  refine CtW.of (by decide) (Nat.le_of_ble_eq_true rfl) ?_
  intro p e s m args below meth c A hE hA hP hD hS hz ls hl
  obtain ⟨hx, hb, hr, hml, hown, hts, hlocks, hname⟩ := hE
  have hown : s.vm.findClass RX6 = some m.cls := hown
  have hK := hOK.1 _ _ _ hz
  have hl : lv_has ls 2 [(0, .ref (a 0)), (1, .int p1)] := hl
  unfold fX6_count at hrun
  refine lv_aload_n hx hb dX6_count_0 rfl (lv_at hl 0 rfl) ?_
  refine lv_iconst (v := (0 : Int32)) hx hb dX6_count_1 (by decide) ?_
  refine va_put (ci := 0) (v := .int (0 : Int32)) (ty := tyX6 0) (C := RX6) (T := TX6) (N := 22) hx hb hts in_X6 tyX6 tyX6_ok nmX6 hown hK hP hD hS 0 rfl rfl 0 (by decide) (hts _ q1902) (fun _ h9 => h9) rfl (tyX6_ok 0 (by decide)) rfl rfl (Nat.le_of_ble_eq_true rfl) dX6_count_2 (fun H locs hP hD hS => ?_)
  have hP : va_P D zCl (cT k a (tw_s_thrown t (0 : Int32))) H := hP
  have hD : va_D A (cT k a (tw_s_thrown t (0 : Int32))) := hD
  obtain ⟨t_1, et_1⟩ : ∃ z : Tw, z = (tw_s_thrown t (0 : Int32)) := ⟨_, rfl⟩
  rw [← et_1] at hP hD
  have hrun := mlt_s hrun t_1 et_1
  refine lv_iload_n hx hb dX6_count_5 rfl (lv_at hl 1 rfl) ?_
  refine lv_if_ne (tgt := 16) hx hb dX6_count_6 (by decide) (fun c_2 => ?_) (fun c_2 => ?_)
  · have hrun := mif_n c_2 hrun
    refine lv_iload_n hx hb dX6_count_16 rfl (lv_at hl 1 rfl) ?_
    refine lv_iconst (v := (1 : Int32)) hx hb dX6_count_17 (by decide) ?_
    refine lv_icmp_ne (tgt := 28) hx hb dX6_count_18 (by decide) (fun c_3 => ?_) (fun c_3 => ?_)
    · have hrun := mif_n c_3 hrun
      refine lv_iload_n hx hb dX6_count_28 rfl (lv_at hl 1 rfl) ?_
      refine lv_iconst (v := (2 : Int32)) hx hb dX6_count_29 (by decide) ?_
      refine lv_icmp_ne (tgt := 40) hx hb dX6_count_30 (by decide) (fun c_4 => ?_) (fun c_4 => ?_)
      · have hrun := mif_n c_4 hrun
        refine lv_iload_n hx hb dX6_count_40 rfl (lv_at hl 1 rfl) ?_
        refine lv_iconst (v := (3 : Int32)) hx hb dX6_count_41 (by decide) ?_
        refine lv_icmp_ne (tgt := 53) hx hb dX6_count_42 (by decide) (fun c_5 => ?_) (fun c_5 => ?_)
        · have hrun := mif_n c_5 hrun
          refine lv_iload_n hx hb dX6_count_53 rfl (lv_at hl 1 rfl) ?_
          refine lv_iconst (v := (4 : Int32)) hx hb dX6_count_54 (by decide) ?_
          refine lv_bipush (v := (9 : Int32)) hx hb dX6_count_55 (by decide) ?_
          obtain ⟨r_7, hc_6, hrun⟩ := mob_s rfl hrun
          refine cRS (ws := []) (As := [.int p1, .int (4 : Int32), .int (9 : Int32)]) ⟨hx, hb, hml, hown, hts⟩ hOK hz hS zP0 (mtX6_isIn l D Z hOK _ _ _ _ hc_6) (kX6_isIn hts q1981 rfl rfl ⟨Nat.le_of_ble_eq_true rfl, Nat.le_of_ble_eq_true rfl⟩) rfl hl.1 rfl (lv_room (Nat.le_of_ble_eq_true rfl)) ⟨Nat.le_of_ble_eq_true rfl, Nat.le_of_ble_eq_true rfl⟩ dX6_count_57 ?_
          refine lv_if_eq (tgt := 74) hx hb dX6_count_60 (by decide) (fun c_8 => ?_) (fun c_8 => ?_)
          · have hrun := mif_n (bz_z c_8) hrun
            refine lv_iload_n hx hb dX6_count_74 rfl (lv_at hl 1 rfl) ?_
            refine lv_bipush (v := (10 : Int32)) hx hb dX6_count_75 (by decide) ?_
            refine lv_icmp_ne (tgt := 88) hx hb dX6_count_77 (by decide) (fun c_9 => ?_) (fun c_9 => ?_)
            · have hrun := mif_n c_9 hrun
              refine lv_iload_n hx hb dX6_count_88 rfl (lv_at hl 1 rfl) ?_
              refine lv_bipush (v := (11 : Int32)) hx hb dX6_count_89 (by decide) ?_
              refine lv_icmp_ne (tgt := 99) hx hb dX6_count_91 (by decide) (fun c_10 => ?_) (fun c_10 => ?_)
              · have hrun := mif_n c_10 hrun
                refine lv_iload_n hx hb dX6_count_99 rfl (lv_at hl 1 rfl) ?_
                refine lv_bipush (v := (12 : Int32)) hx hb dX6_count_100 (by decide) ?_
                refine lv_icmp_ne (tgt := 110) hx hb dX6_count_102 (by decide) (fun c_11 => ?_) (fun c_11 => ?_)
                · have hrun := mif_n c_11 hrun
                  refine lv_iload_n hx hb dX6_count_110 rfl (lv_at hl 1 rfl) ?_
                  refine lv_bipush (v := (13 : Int32)) hx hb dX6_count_111 (by decide) ?_
                  refine lv_icmp_ne (tgt := 121) hx hb dX6_count_113 (by decide) (fun c_12 => ?_) (fun c_12 => ?_)
                  · have hrun := mif_n c_12 hrun
                    refine lv_iload_n hx hb dX6_count_121 rfl (lv_at hl 1 rfl) ?_
                    refine lv_bipush (v := (14 : Int32)) hx hb dX6_count_122 (by decide) ?_
                    refine lv_icmp_ne (tgt := 135) hx hb dX6_count_124 (by decide) (fun c_13 => ?_) (fun c_13 => ?_)
                    · have hrun := mif_n c_13 hrun
                      refine lv_iload_n hx hb dX6_count_135 rfl (lv_at hl 1 rfl) ?_
                      refine lv_bipush (v := (15 : Int32)) hx hb dX6_count_136 (by decide) ?_
                      refine lv_icmp_ne (tgt := 148) hx hb dX6_count_138 (by decide) (fun c_14 => ?_) (fun c_14 => ?_)
                      · have hrun := mif_n c_14 hrun
                        refine lv_iconst (v := (-1 : Int32)) hx hb dX6_count_148 (by decide) ?_
                        cases hrun
                        exact retW_i hx hb hr hlocks hP hD hS ⟨rfl, rfl⟩ dX6_count_149
                      have hrun := mif_p c_14 hrun
                      refine lv_aload_n hx hb dX6_count_141 rfl (lv_at hl 0 rfl) ?_
                      refine va_get (ci := 0) (v := .int (tw_acted t_1)) (C := RX6) (T := TX6) (N := 22) hx hb hts in_X6 hown hK hP 0 rfl rfl 6 (by decide) (hts _ q1908) (fun _ h9 => h9) rfl dX6_count_142 ?_
                      refine lv_goto (tgt := 149) hx hb dX6_count_145 (by decide) ?_
                      cases hrun
                      exact retW_i hx hb hr hlocks hP hD hS ⟨rfl, rfl⟩ dX6_count_149
                    have hrun := mif_p c_13 hrun
                    refine lv_aload_n hx hb dX6_count_127 rfl (lv_at hl 0 rfl) ?_
                    refine va_get (ci := 0) (v := .ref (a 1)) (C := RX6) (T := TX6) (N := 22) hx hb hts in_X6 hown hK hP 0 rfl rfl 1 (by decide) (hts _ q1903) (fun _ h9 => h9) rfl dX6_count_128 ?_
                    refine lv_bipush (v := (14 : Int32)) hx hb dX6_count_131 (by decide) ?_
                    refine va_ialdk (k := 14) hx hb hK hP 1 0 rfl rfl rfl (show ¬ _ from by decide) dX6_count_133 ?_
                    cases hrun
                    exact retW_i hx hb hr hlocks hP hD hS ⟨rfl, rfl⟩ dX6_count_134
                  have hrun := mif_p c_12 hrun
                  refine lv_aload_n hx hb dX6_count_116 rfl (lv_at hl 0 rfl) ?_
                  obtain ⟨r_16, hc_15, hrun⟩ := mob_s rfl hrun
                  refine cRV (As := []) (ci := 0) ⟨hx, hb, hml, hown, hts⟩ hOK hz hS hP (mtX6_doubts l D k a Z hOK _ _ hc_15) (kX6_doubts hts q2159 rfl rfl ⟨Nat.le_of_ble_eq_true rfl, Nat.le_of_ble_eq_true rfl⟩) 0 rfl rfl rfl hl.1 rfl (lv_room (Nat.le_of_ble_eq_true rfl)) ⟨Nat.le_of_ble_eq_true rfl, Nat.le_of_ble_eq_true rfl⟩ dX6_count_117 ?_
                  cases hrun
                  exact retW_i hx hb hr hlocks hP hD hS ⟨rfl, rfl⟩ dX6_count_120
                have hrun := mif_p c_11 hrun
                refine lv_aload_n hx hb dX6_count_105 rfl (lv_at hl 0 rfl) ?_
                obtain ⟨r_18, hc_17, hrun⟩ := mob_s rfl hrun
                refine cRV (As := []) (ci := 0) ⟨hx, hb, hml, hown, hts⟩ hOK hz hS hP (mtX6_hereOnes l D k a Z hOK _ _ hc_17) (kX6_hereOnes hts q2487 rfl rfl ⟨Nat.le_of_ble_eq_true rfl, Nat.le_of_ble_eq_true rfl⟩) 0 rfl rfl rfl hl.1 rfl (lv_room (Nat.le_of_ble_eq_true rfl)) ⟨Nat.le_of_ble_eq_true rfl, Nat.le_of_ble_eq_true rfl⟩ dX6_count_106 ?_
                cases hrun
                exact retW_i hx hb hr hlocks hP hD hS ⟨rfl, rfl⟩ dX6_count_109
              have hrun := mif_p c_10 hrun
              refine lv_aload_n hx hb dX6_count_94 rfl (lv_at hl 0 rfl) ?_
              obtain ⟨r_20, hc_19, hrun⟩ := mob_s rfl hrun
              refine cRV (As := []) (ci := 0) ⟨hx, hb, hml, hown, hts⟩ hOK hz hS hP (mtX6_holes l D k a Z hOK _ _ hc_19) (kX6_holes hts q2447 rfl rfl ⟨Nat.le_of_ble_eq_true rfl, Nat.le_of_ble_eq_true rfl⟩) 0 rfl rfl rfl hl.1 rfl (lv_room (Nat.le_of_ble_eq_true rfl)) ⟨Nat.le_of_ble_eq_true rfl, Nat.le_of_ble_eq_true rfl⟩ dX6_count_95 ?_
              cases hrun
              exact retW_i hx hb hr hlocks hP hD hS ⟨rfl, rfl⟩ dX6_count_98
            have hrun := mif_p c_9 hrun
            refine lv_aload_n hx hb dX6_count_80 rfl (lv_at hl 0 rfl) ?_
            refine va_get (ci := 0) (v := .ref (a 1)) (C := RX6) (T := TX6) (N := 22) hx hb hts in_X6 hown hK hP 0 rfl rfl 1 (by decide) (hts _ q1903) (fun _ h9 => h9) rfl dX6_count_81 ?_
            refine lv_bipush (v := (11 : Int32)) hx hb dX6_count_84 (by decide) ?_
            refine va_ialdk (k := 11) hx hb hK hP 1 0 rfl rfl rfl (show ¬ _ from by decide) dX6_count_86 ?_
            cases hrun
            exact retW_i hx hb hr hlocks hP hD hS ⟨rfl, rfl⟩ dX6_count_87
          have hrun := mif_p (bz_nz c_8) hrun
          refine lv_aload_n hx hb dX6_count_63 rfl (lv_at hl 0 rfl) ?_
          refine va_get (ci := 0) (v := .ref (a 1)) (C := RX6) (T := TX6) (N := 22) hx hb hts in_X6 hown hK hP 0 rfl rfl 1 (by decide) (hts _ q1903) (fun _ h9 => h9) rfl dX6_count_64 ?_
          refine lv_iconst (v := (4 : Int32)) hx hb dX6_count_67 (by decide) ?_
          refine lv_iload_n hx hb dX6_count_68 rfl (lv_at hl 1 rfl) ?_
          refine lv_iadd hx hb dX6_count_69 ?_
          refine lv_iconst (v := (4 : Int32)) hx hb dX6_count_70 (by decide) ?_
          refine lv_isub hx hb dX6_count_71 ?_
          obtain ⟨hb_21, hrun⟩ := mck_s rfl hrun
          refine va_iald hx hb hK hP 1 0 rfl rfl hb_21 dX6_count_72 ?_
          cases hrun
          exact retW_i hx hb hr hlocks hP hD hS ⟨rfl, rfl⟩ dX6_count_73
        have hrun := mif_p c_5 hrun
        refine lv_aload_n hx hb dX6_count_45 rfl (lv_at hl 0 rfl) ?_
        refine va_get (ci := 0) (v := .ref (a 1)) (C := RX6) (T := TX6) (N := 22) hx hb hts in_X6 hown hK hP 0 rfl rfl 1 (by decide) (hts _ q1903) (fun _ h9 => h9) rfl dX6_count_46 ?_
        refine lv_bipush (v := (10 : Int32)) hx hb dX6_count_49 (by decide) ?_
        refine va_ialdk (k := 10) hx hb hK hP 1 0 rfl rfl rfl (show ¬ _ from by decide) dX6_count_51 ?_
        cases hrun
        exact retW_i hx hb hr hlocks hP hD hS ⟨rfl, rfl⟩ dX6_count_52
      have hrun := mif_p c_4 hrun
      refine lv_aload_n hx hb dX6_count_33 rfl (lv_at hl 0 rfl) ?_
      refine va_get (ci := 0) (v := .ref (a 1)) (C := RX6) (T := TX6) (N := 22) hx hb hts in_X6 hown hK hP 0 rfl rfl 1 (by decide) (hts _ q1903) (fun _ h9 => h9) rfl dX6_count_34 ?_
      refine lv_iconst (v := (1 : Int32)) hx hb dX6_count_37 (by decide) ?_
      refine va_ialdk (k := 1) hx hb hK hP 1 0 rfl rfl rfl (show ¬ _ from by decide) dX6_count_38 ?_
      cases hrun
      exact retW_i hx hb hr hlocks hP hD hS ⟨rfl, rfl⟩ dX6_count_39
    have hrun := mif_p c_3 hrun
    refine lv_aload_n hx hb dX6_count_21 rfl (lv_at hl 0 rfl) ?_
    refine va_get (ci := 0) (v := .ref (a 1)) (C := RX6) (T := TX6) (N := 22) hx hb hts in_X6 hown hK hP 0 rfl rfl 1 (by decide) (hts _ q1903) (fun _ h9 => h9) rfl dX6_count_22 ?_
    refine lv_iconst (v := (0 : Int32)) hx hb dX6_count_25 (by decide) ?_
    refine va_ialdk (k := 0) hx hb hK hP 1 0 rfl rfl rfl (show ¬ _ from by decide) dX6_count_26 ?_
    cases hrun
    exact retW_i hx hb hr hlocks hP hD hS ⟨rfl, rfl⟩ dX6_count_27
  have hrun := mif_p c_2 hrun
  refine lv_aload_n hx hb dX6_count_9 rfl (lv_at hl 0 rfl) ?_
  refine va_get (ci := 0) (v := .ref (a 1)) (C := RX6) (T := TX6) (N := 22) hx hb hts in_X6 hown hK hP 0 rfl rfl 1 (by decide) (hts _ q1903) (fun _ h9 => h9) rfl dX6_count_10 ?_
  refine lv_iconst (v := (3 : Int32)) hx hb dX6_count_13 (by decide) ?_
  refine va_ialdk (k := 3) hx hb hK hP 1 0 rfl rfl rfl (show ¬ _ from by decide) dX6_count_14 ?_
  cases hrun
  exact retW_i hx hb hr hlocks hP hD hS ⟨rfl, rfl⟩ dX6_count_15
def rX6_figures : Room := { frames := 3, cells := 0, slots := 0, locals := 61 }
noncomputable def fX6_figures_L18 (K_8 : Int32 → Tw → Option (Int32 × Tw)) (r_4 : Int32) : Nat → Int32 → Tw → Option (Int32 × Tw)
  | 0, _, _ => none
  | n + 1, x4_22, t_23 =>
    if (tw_end_ t_23) ≤ (tw_at_ t_23) then
      K_8 x4_22 t_23
    else
      mob (fX6_letter t_23 (tw_at_ t_23)) fun r_26 =>
      mob (fX6_isIn r_26 (48 : Int32) (57 : Int32)) fun r_28 =>
      if r_28 = true then
        if (3 : Int32) < ((tw_at_ t_23) - r_4) then
          K_8 x4_22 t_23
        else
          mob (fX6_letter t_23 (tw_at_ t_23)) fun r_32 =>
          mlt (tw_s_at_ t_23 ((tw_at_ t_23) + (1 : Int32))) fun t_33 =>
          fX6_figures_L18 K_8 r_4 n ((((10 : Int32) * x4_22) + r_32) - (48 : Int32)) t_33
      else
        K_8 x4_22 t_23
noncomputable def fX6_figures (t : Tw) (p1 : Int32) (p2 : Int32) : Option (Int32 × Tw) :=
  if (tw_fault t) = (-1 : Int32) then
    mo2 (fX6_place t) fun r_4 t_3 =>
    mjn (fun (x4_6 : Int32) (t_7 : Tw) =>
    if (tw_at_ t_7) = r_4 then
      mob (fX6_wrong t_7 r_4) fun t_11 =>
      some (x4_6, t_11)
    else
      if (3 : Int32) < ((tw_at_ t_7) - r_4) then
        mob (fX6_wrong t_7 r_4) fun t_14 =>
        some (x4_6, t_14)
      else
        if x4_6 < p1 then
          mob (fX6_wrong t_7 r_4) fun t_17 =>
          some (x4_6, t_17)
        else
          if x4_6 ≤ p2 then
            some (x4_6, t_7)
          else
            mob (fX6_wrong t_7 r_4) fun t_20 =>
            some (x4_6, t_20)) fun K_8 =>
    fX6_figures_L18 K_8 r_4 mFU (0 : Int32) t_3
  else
    some ((0 : Int32), t)
theorem kX6_figures {R : Room} {s : State} {args : Array Value} {own : String} {idx mc ms : Nat} {rm : Room} (hts : ∀ w ∈ lw_all, w.before args s = true) (hl : Cond.methodLink own idx yX6_figures ∈ lw_all) (hrc : rm.cells = mc) (hrs : rm.slots = ms) (hR : rm.frames + 1 ≤ R.frames ∧ 8 + (5 + 11) + rm.locals ≤ R.locals) : CallW R s args own RX6 idx yX6_figures cX6_figures 5 (some .int) (ws_ yX6_figures cX6_figures 5 (some .int)) rm mc ms 2 :=
  cwV 2 hts (lw_V hl q2036 qs57 q115 q2037) rfl hrc hrs (by decide +kernel) hR
set_option maxHeartbeats 4000000 in
set_option maxRecDepth 100000 in
theorem mtX6_figures (l : Launch) (D : va_G) (k : Nat → ClassId) (a : Nat → Nat) (Z : zZ) (hOK : zOK D zCl (zTys k) Z) (t : Tw) (p1 : Int32) (p2 : Int32) (r : Int32) (tt : Tw) (hrun : fX6_figures t p1 p2 = some (r, tt)) :
    CtW l yX6_figures cX6_figures 5 (some .int) rX6_figures Z D zCl (cT k a t) [.ref (a 0), .int p1, .int p2] (fun r' w' => r' = (some (.int r)) ∧ w' = cT k a tt) 0 0 := by
  refine CtW.of (by decide) (Nat.le_of_ble_eq_true rfl) ?_
  intro p e s m args below meth c A hE hA hP hD hS hz ls hl
  obtain ⟨hx, hb, hr, hml, hown, hts, hlocks, hname⟩ := hE
  have hown : s.vm.findClass RX6 = some m.cls := hown
  have hK := hOK.1 _ _ _ hz
  have hl : lv_has ls 5 [(0, .ref (a 0)), (1, .int p1), (2, .int p2)] := hl
  unfold fX6_figures at hrun
  refine lv_aload_n hx hb dX6_figures_0 rfl (lv_at hl 0 rfl) ?_
  refine va_get (ci := 0) (v := .int (tw_fault t)) (C := RX6) (T := TX6) (N := 22) hx hb hts in_X6 hown hK hP 0 rfl rfl 12 (by decide) (hts _ q1914) (fun _ h9 => h9) rfl dX6_figures_1 ?_
  refine lv_iconst (v := (-1 : Int32)) hx hb dX6_figures_4 (by decide) ?_
  refine lv_icmp_eq (tgt := 10) hx hb dX6_figures_5 (by decide) (fun c_1 => ?_) (fun c_1 => ?_)
  · have hrun := mif_p c_1 hrun
    refine lv_aload_n hx hb dX6_figures_10 rfl (lv_at hl 0 rfl) ?_
    obtain ⟨r_4, t_3, hc_2, hrun⟩ := mo2_s rfl hrun
    refine cWV00 (As := []) (ci := 0) ⟨hx, hb, hml, hown, hts⟩ hOK hz hS hA hP hD (mtX6_place l D k a Z hOK _ _ _ hc_2) (kX6_place hts q2038 rfl rfl ⟨Nat.le_of_ble_eq_true rfl, Nat.le_of_ble_eq_true rfl⟩) 0 rfl rfl rfl hl.1 rfl (lv_room (Nat.le_of_ble_eq_true rfl)) ⟨Nat.le_of_ble_eq_true rfl, Nat.le_of_ble_eq_true rfl⟩ dX6_figures_11 (fun r_ w_ H locs hq hP hD hS => ?_)
    obtain ⟨rfl, rfl⟩ := hq
    refine lv_istore_n (lv' := [(3, .int r_4), (0, .ref (a 0)), (1, .int p1), (2, .int p2)]) hx hb dX6_figures_14 rfl hl (by decide) rfl (fun ls hl => ?_)
    refine lv_iconst (v := (0 : Int32)) hx hb dX6_figures_15 (by decide) ?_
    refine lv_istore (lv' := [(4, .int (0 : Int32)), (3, .int r_4), (0, .ref (a 0)), (1, .int p1), (2, .int p2)]) hx hb dX6_figures_16 hl (by decide) rfl (fun ls hl => ?_)
    obtain ⟨K_8, hK_8, hrun⟩ := mjn_s hrun
    have hj_5 : ∀ (x4_6 : Int32) (t_7 : Tw), ∀ (H : Heap) (locs : List Loc), va_P D zCl (cT k a t_7) H → va_D A (cT k a t_7) → va_S A s.heap H locs → ∀ ls : Array Slot, lv_has ls 5 [(0, .ref (a 0)), (1, .int p1), (2, .int p2), (3, .int r_4), (4, .int x4_6)] → K_8 x4_6 t_7 = some (r, tt) → W p l e rX6_figures s m args below meth c H locs 0 0 (MQ below (QWr (fun r' w' => r' = (some (.int r)) ∧ w' = cT k a tt) D zCl A) args s 0 0 A) (F0 m 89 ls []) := by
      intro x4_6 t_7 H locs hP hD hS ls hl hrun
      rw [hK_8] at hrun
      refine lv_aload_n hx hb dX6_figures_89 rfl (lv_at hl 0 rfl) ?_
      refine va_get (ci := 0) (v := .int (tw_at_ t_7)) (C := RX6) (T := TX6) (N := 22) hx hb hts in_X6 hown hK hP 0 rfl rfl 11 (by decide) (hts _ q1913) (fun _ h9 => h9) rfl dX6_figures_90 ?_
      refine lv_iload_n hx hb dX6_figures_93 rfl (lv_at hl 3 rfl) ?_
      refine lv_icmp_eq (tgt := 119) hx hb dX6_figures_94 (by decide) (fun c_9 => ?_) (fun c_9 => ?_)
      · have hrun := mif_p c_9 hrun
        refine lv_aload_n hx hb dX6_figures_119 rfl (lv_at hl 0 rfl) ?_
        refine lv_iload_n hx hb dX6_figures_120 rfl (lv_at hl 3 rfl) ?_
        obtain ⟨t_11, hc_10, hrun⟩ := mob_s rfl hrun
        refine cWV00 (As := [.int r_4]) (ci := 0) ⟨hx, hb, hml, hown, hts⟩ hOK hz hS hA hP hD (mtX6_wrong l D k a Z hOK _ _ _ hc_10) (kX6_wrong hts q2008 rfl rfl ⟨Nat.le_of_ble_eq_true rfl, Nat.le_of_ble_eq_true rfl⟩) 0 rfl rfl rfl hl.1 rfl (lv_room (Nat.le_of_ble_eq_true rfl)) ⟨Nat.le_of_ble_eq_true rfl, Nat.le_of_ble_eq_true rfl⟩ dX6_figures_121 (fun r_ w_ H locs hq hP hD hS => ?_)
        obtain ⟨rfl, rfl⟩ := hq
        refine lv_iload hx hb dX6_figures_124 (lv_at hl 4 rfl) ?_
        cases hrun
        exact retW_i hx hb hr hlocks hP hD hS ⟨rfl, rfl⟩ dX6_figures_126
      have hrun := mif_n c_9 hrun
      refine lv_aload_n hx hb dX6_figures_97 rfl (lv_at hl 0 rfl) ?_
      refine va_get (ci := 0) (v := .int (tw_at_ t_7)) (C := RX6) (T := TX6) (N := 22) hx hb hts in_X6 hown hK hP 0 rfl rfl 11 (by decide) (hts _ q1913) (fun _ h9 => h9) rfl dX6_figures_98 ?_
      refine lv_iload_n hx hb dX6_figures_101 rfl (lv_at hl 3 rfl) ?_
      refine lv_isub hx hb dX6_figures_102 ?_
      refine lv_iconst (v := (3 : Int32)) hx hb dX6_figures_103 (by decide) ?_
      refine lv_icmp_gt (tgt := 119) hx hb dX6_figures_104 (by decide) (fun c_12 => ?_) (fun c_12 => ?_)
      · have hrun := mif_p c_12 hrun
        refine lv_aload_n hx hb dX6_figures_119 rfl (lv_at hl 0 rfl) ?_
        refine lv_iload_n hx hb dX6_figures_120 rfl (lv_at hl 3 rfl) ?_
        obtain ⟨t_14, hc_13, hrun⟩ := mob_s rfl hrun
        refine cWV00 (As := [.int r_4]) (ci := 0) ⟨hx, hb, hml, hown, hts⟩ hOK hz hS hA hP hD (mtX6_wrong l D k a Z hOK _ _ _ hc_13) (kX6_wrong hts q2008 rfl rfl ⟨Nat.le_of_ble_eq_true rfl, Nat.le_of_ble_eq_true rfl⟩) 0 rfl rfl rfl hl.1 rfl (lv_room (Nat.le_of_ble_eq_true rfl)) ⟨Nat.le_of_ble_eq_true rfl, Nat.le_of_ble_eq_true rfl⟩ dX6_figures_121 (fun r_ w_ H locs hq hP hD hS => ?_)
        obtain ⟨rfl, rfl⟩ := hq
        refine lv_iload hx hb dX6_figures_124 (lv_at hl 4 rfl) ?_
        cases hrun
        exact retW_i hx hb hr hlocks hP hD hS ⟨rfl, rfl⟩ dX6_figures_126
      have hrun := mif_n c_12 hrun
      refine lv_iload hx hb dX6_figures_107 (lv_at hl 4 rfl) ?_
      refine lv_iload_n hx hb dX6_figures_109 rfl (lv_at hl 1 rfl) ?_
      refine lv_icmp_lt (tgt := 119) hx hb dX6_figures_110 (by decide) (fun c_15 => ?_) (fun c_15 => ?_)
      · have hrun := mif_p c_15 hrun
        refine lv_aload_n hx hb dX6_figures_119 rfl (lv_at hl 0 rfl) ?_
        refine lv_iload_n hx hb dX6_figures_120 rfl (lv_at hl 3 rfl) ?_
        obtain ⟨t_17, hc_16, hrun⟩ := mob_s rfl hrun
        refine cWV00 (As := [.int r_4]) (ci := 0) ⟨hx, hb, hml, hown, hts⟩ hOK hz hS hA hP hD (mtX6_wrong l D k a Z hOK _ _ _ hc_16) (kX6_wrong hts q2008 rfl rfl ⟨Nat.le_of_ble_eq_true rfl, Nat.le_of_ble_eq_true rfl⟩) 0 rfl rfl rfl hl.1 rfl (lv_room (Nat.le_of_ble_eq_true rfl)) ⟨Nat.le_of_ble_eq_true rfl, Nat.le_of_ble_eq_true rfl⟩ dX6_figures_121 (fun r_ w_ H locs hq hP hD hS => ?_)
        obtain ⟨rfl, rfl⟩ := hq
        refine lv_iload hx hb dX6_figures_124 (lv_at hl 4 rfl) ?_
        cases hrun
        exact retW_i hx hb hr hlocks hP hD hS ⟨rfl, rfl⟩ dX6_figures_126
      have hrun := mif_n c_15 hrun
      refine lv_iload hx hb dX6_figures_113 (lv_at hl 4 rfl) ?_
      refine lv_iload_n hx hb dX6_figures_115 rfl (lv_at hl 2 rfl) ?_
      refine lv_icmp_le (tgt := 124) hx hb dX6_figures_116 (by decide) (fun c_18 => ?_) (fun c_18 => ?_)
      · have hrun := mif_p c_18 hrun
        refine lv_iload hx hb dX6_figures_124 (lv_at hl 4 rfl) ?_
        cases hrun
        exact retW_i hx hb hr hlocks hP hD hS ⟨rfl, rfl⟩ dX6_figures_126
      have hrun := mif_n c_18 hrun
      refine lv_aload_n hx hb dX6_figures_119 rfl (lv_at hl 0 rfl) ?_
      refine lv_iload_n hx hb dX6_figures_120 rfl (lv_at hl 3 rfl) ?_
      obtain ⟨t_20, hc_19, hrun⟩ := mob_s rfl hrun
      refine cWV00 (As := [.int r_4]) (ci := 0) ⟨hx, hb, hml, hown, hts⟩ hOK hz hS hA hP hD (mtX6_wrong l D k a Z hOK _ _ _ hc_19) (kX6_wrong hts q2008 rfl rfl ⟨Nat.le_of_ble_eq_true rfl, Nat.le_of_ble_eq_true rfl⟩) 0 rfl rfl rfl hl.1 rfl (lv_room (Nat.le_of_ble_eq_true rfl)) ⟨Nat.le_of_ble_eq_true rfl, Nat.le_of_ble_eq_true rfl⟩ dX6_figures_121 (fun r_ w_ H locs hq hP hD hS => ?_)
      obtain ⟨rfl, rfl⟩ := hq
      refine lv_iload hx hb dX6_figures_124 (lv_at hl 4 rfl) ?_
      cases hrun
      exact retW_i hx hb hr hlocks hP hD hS ⟨rfl, rfl⟩ dX6_figures_126
    have hL_21 : ∀ n : Nat, ∀ (x4_22 : Int32) (t_23 : Tw), ∀ (H : Heap) (locs : List Loc), va_P D zCl (cT k a t_23) H → va_D A (cT k a t_23) → va_S A s.heap H locs → ∀ ls : Array Slot, lv_has ls 5 [(0, .ref (a 0)), (1, .int p1), (2, .int p2), (3, .int r_4), (4, .int x4_22)] → fX6_figures_L18 K_8 r_4 n x4_22 t_23 = some (r, tt) → W p l e rX6_figures s m args below meth c H locs 0 0 (MQ below (QWr (fun r' w' => r' = (some (.int r)) ∧ w' = cT k a tt) D zCl A) args s 0 0 A) (F0 m 18 ls []) := by
      intro n
      induction n with
      | zero =>
        intro x4_22 t_23 H locs hP hD hS ls hl hrun
        exact nomatch hrun
      | succ n ih =>
        intro x4_22 t_23 H locs hP hD hS ls hl hrun
        rw [fX6_figures_L18.eq_2] at hrun
        refine lv_aload_n hx hb dX6_figures_18 rfl (lv_at hl 0 rfl) ?_
        refine va_get (ci := 0) (v := .int (tw_at_ t_23)) (C := RX6) (T := TX6) (N := 22) hx hb hts in_X6 hown hK hP 0 rfl rfl 11 (by decide) (hts _ q1913) (fun _ h9 => h9) rfl dX6_figures_19 ?_
        refine lv_aload_n hx hb dX6_figures_22 rfl (lv_at hl 0 rfl) ?_
        refine va_get (ci := 0) (v := .int (tw_end_ t_23)) (C := RX6) (T := TX6) (N := 22) hx hb hts in_X6 hown hK hP 0 rfl rfl 10 (by decide) (hts _ q1912) (fun _ h9 => h9) rfl dX6_figures_23 ?_
        refine lv_icmp_ge (tgt := 89) hx hb dX6_figures_26 (by decide) (fun c_24 => ?_) (fun c_24 => ?_)
        · have hrun := mif_p c_24 hrun
          exact hj_5 x4_22 t_23 _ _ hP hD hS ls (lv_sub hl [0, 1, 2, 3, 4] rfl) hrun
        have hrun := mif_n c_24 hrun
        refine lv_aload_n hx hb dX6_figures_29 rfl (lv_at hl 0 rfl) ?_
        refine lv_aload_n hx hb dX6_figures_30 rfl (lv_at hl 0 rfl) ?_
        refine va_get (ci := 0) (v := .int (tw_at_ t_23)) (C := RX6) (T := TX6) (N := 22) hx hb hts in_X6 hown hK hP 0 rfl rfl 11 (by decide) (hts _ q1913) (fun _ h9 => h9) rfl dX6_figures_31 ?_
        obtain ⟨r_26, hc_25, hrun⟩ := mob_s rfl hrun
        refine cRV (As := [.int (tw_at_ t_23)]) (ci := 0) ⟨hx, hb, hml, hown, hts⟩ hOK hz hS hP (mtX6_letter l D k a Z hOK _ _ _ hc_25) (kX6_letter hts q2004 rfl rfl ⟨Nat.le_of_ble_eq_true rfl, Nat.le_of_ble_eq_true rfl⟩) 0 rfl rfl rfl hl.1 rfl (lv_room (Nat.le_of_ble_eq_true rfl)) ⟨Nat.le_of_ble_eq_true rfl, Nat.le_of_ble_eq_true rfl⟩ dX6_figures_34 ?_
        refine lv_bipush (v := (48 : Int32)) hx hb dX6_figures_37 (by decide) ?_
        refine lv_bipush (v := (57 : Int32)) hx hb dX6_figures_39 (by decide) ?_
        obtain ⟨r_28, hc_27, hrun⟩ := mob_s rfl hrun
        refine cRS (ws := []) (As := [.int r_26, .int (48 : Int32), .int (57 : Int32)]) ⟨hx, hb, hml, hown, hts⟩ hOK hz hS zP0 (mtX6_isIn l D Z hOK _ _ _ _ hc_27) (kX6_isIn hts q1981 rfl rfl ⟨Nat.le_of_ble_eq_true rfl, Nat.le_of_ble_eq_true rfl⟩) rfl hl.1 rfl (lv_room (Nat.le_of_ble_eq_true rfl)) ⟨Nat.le_of_ble_eq_true rfl, Nat.le_of_ble_eq_true rfl⟩ dX6_figures_41 ?_
        refine lv_if_eq (tgt := 89) hx hb dX6_figures_44 (by decide) (fun c_29 => ?_) (fun c_29 => ?_)
        · have hrun := mif_n (bz_z c_29) hrun
          exact hj_5 x4_22 t_23 _ _ hP hD hS ls (lv_sub hl [0, 1, 2, 3, 4] rfl) hrun
        have hrun := mif_p (bz_nz c_29) hrun
        refine lv_aload_n hx hb dX6_figures_47 rfl (lv_at hl 0 rfl) ?_
        refine va_get (ci := 0) (v := .int (tw_at_ t_23)) (C := RX6) (T := TX6) (N := 22) hx hb hts in_X6 hown hK hP 0 rfl rfl 11 (by decide) (hts _ q1913) (fun _ h9 => h9) rfl dX6_figures_48 ?_
        refine lv_iload_n hx hb dX6_figures_51 rfl (lv_at hl 3 rfl) ?_
        refine lv_isub hx hb dX6_figures_52 ?_
        refine lv_iconst (v := (3 : Int32)) hx hb dX6_figures_53 (by decide) ?_
        refine lv_icmp_gt (tgt := 89) hx hb dX6_figures_54 (by decide) (fun c_30 => ?_) (fun c_30 => ?_)
        · have hrun := mif_p c_30 hrun
          exact hj_5 x4_22 t_23 _ _ hP hD hS ls (lv_sub hl [0, 1, 2, 3, 4] rfl) hrun
        have hrun := mif_n c_30 hrun
        refine lv_bipush (v := (10 : Int32)) hx hb dX6_figures_57 (by decide) ?_
        refine lv_iload hx hb dX6_figures_59 (lv_at hl 4 rfl) ?_
        refine lv_imul hx hb dX6_figures_61 ?_
        refine lv_aload_n hx hb dX6_figures_62 rfl (lv_at hl 0 rfl) ?_
        refine lv_aload_n hx hb dX6_figures_63 rfl (lv_at hl 0 rfl) ?_
        refine va_get (ci := 0) (v := .int (tw_at_ t_23)) (C := RX6) (T := TX6) (N := 22) hx hb hts in_X6 hown hK hP 0 rfl rfl 11 (by decide) (hts _ q1913) (fun _ h9 => h9) rfl dX6_figures_64 ?_
        obtain ⟨r_32, hc_31, hrun⟩ := mob_s rfl hrun
        refine cRV (As := [.int (tw_at_ t_23)]) (ci := 0) ⟨hx, hb, hml, hown, hts⟩ hOK hz hS hP (mtX6_letter l D k a Z hOK _ _ _ hc_31) (kX6_letter hts q2004 rfl rfl ⟨Nat.le_of_ble_eq_true rfl, Nat.le_of_ble_eq_true rfl⟩) 0 rfl rfl rfl hl.1 rfl (lv_room (Nat.le_of_ble_eq_true rfl)) ⟨Nat.le_of_ble_eq_true rfl, Nat.le_of_ble_eq_true rfl⟩ dX6_figures_67 ?_
        refine lv_iadd hx hb dX6_figures_70 ?_
        refine lv_bipush (v := (48 : Int32)) hx hb dX6_figures_71 (by decide) ?_
        refine lv_isub hx hb dX6_figures_73 ?_
        refine lv_istore (lv' := [(4, .int ((((10 : Int32) * x4_22) + r_32) - (48 : Int32))), (0, .ref (a 0)), (1, .int p1), (2, .int p2), (3, .int r_4)]) hx hb dX6_figures_74 hl (by decide) rfl (fun ls hl => ?_)
        refine lv_aload_n hx hb dX6_figures_76 rfl (lv_at hl 1 rfl) ?_
        refine lv_dup hx hb dX6_figures_77 rfl ?_
        refine va_get (ci := 0) (v := .int (tw_at_ t_23)) (C := RX6) (T := TX6) (N := 22) hx hb hts in_X6 hown hK hP 0 rfl rfl 11 (by decide) (hts _ q1913) (fun _ h9 => h9) rfl dX6_figures_78 ?_
        refine lv_iconst (v := (1 : Int32)) hx hb dX6_figures_81 (by decide) ?_
        refine lv_iadd hx hb dX6_figures_82 ?_
        refine va_put (ci := 0) (v := .int ((tw_at_ t_23) + (1 : Int32))) (ty := tyX6 11) (C := RX6) (T := TX6) (N := 22) hx hb hts in_X6 tyX6 tyX6_ok nmX6 hown hK hP hD hS 0 rfl rfl 11 (by decide) (hts _ q1913) (fun _ h9 => h9) rfl (tyX6_ok 11 (by decide)) rfl rfl (Nat.le_of_ble_eq_true rfl) dX6_figures_83 (fun H locs hP hD hS => ?_)
        have hP : va_P D zCl (cT k a (tw_s_at_ t_23 ((tw_at_ t_23) + (1 : Int32)))) H := hP
        have hD : va_D A (cT k a (tw_s_at_ t_23 ((tw_at_ t_23) + (1 : Int32)))) := hD
        obtain ⟨t_33, et_33⟩ : ∃ z : Tw, z = (tw_s_at_ t_23 ((tw_at_ t_23) + (1 : Int32))) := ⟨_, rfl⟩
        rw [← et_33] at hP hD
        have hrun := mlt_s hrun t_33 et_33
        refine lv_goto (tgt := 18) hx hb dX6_figures_86 (by decide) ?_
        exact ih ((((10 : Int32) * x4_22) + r_32) - (48 : Int32)) t_33 _ _ hP hD hS ls (lv_sub hl [1, 2, 3, 4, 0] rfl) hrun
    exact hL_21 mFU (0 : Int32) t_3 _ _ hP hD hS ls (lv_sub hl [2, 3, 4, 1, 0] rfl) hrun
  have hrun := mif_n c_1 hrun
  refine lv_iconst (v := (0 : Int32)) hx hb dX6_figures_8 (by decide) ?_
  cases hrun
  exact retW_i hx hb hr hlocks hP hD hS ⟨rfl, rfl⟩ dX6_figures_9
