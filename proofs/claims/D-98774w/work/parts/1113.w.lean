/-! walks: X6_part, X6_after, X6_holeLine, X6_tells, X6_seesFrom -/
def rX6_part : Room := { frames := 5, cells := 0, slots := 0, locals := 108 }
noncomputable def fX6_part (t : Tw) : Option (Int32 × Tw) :=
  if (tw_fault t) = (-1 : Int32) then
    mob (fX6_skip t) fun t_3 =>
    if (tw_end_ t_3) ≤ (tw_at_ t_3) then
      mo2 (fX6_has t_3 0) fun r_7 t_6 =>
      mjn (fun (y_10 : Int32) (t_11 : Tw) =>
      if y_10 = (-1 : Int32) then
        mob (fX6_wrong t_11 (tw_at_ t_11)) fun t_16 =>
        some ((0 : Int32), t_16)
      else
        mck y_10 7 <|
        some (((tw_fact t_11) (Int32.toNatClampNeg y_10)), t_11)) fun K_12 =>
      if r_7 = true then
        K_12 (0 : Int32) t_6
      else
        mo2 (fX6_has t_6 19) fun r_19 t_18 =>
        if r_19 = true then
          K_12 (1 : Int32) t_18
        else
          mo2 (fX6_has t_18 9) fun r_23 t_22 =>
          if r_23 = true then
            K_12 (2 : Int32) t_22
          else
            mo2 (fX6_has t_22 20) fun r_27 t_26 =>
            if r_27 = true then
              K_12 (3 : Int32) t_26
            else
              mo2 (fX6_has t_26 21) fun r_31 t_30 =>
              if r_31 = true then
                K_12 (4 : Int32) t_30
              else
                mo2 (fX6_has t_30 22) fun r_35 t_34 =>
                if r_35 = true then
                  K_12 (5 : Int32) t_34
                else
                  mo2 (fX6_has t_34 23) fun r_39 t_38 =>
                  if r_39 = true then
                    K_12 (6 : Int32) t_38
                  else
                    K_12 (-1 : Int32) t_38
    else
      mob (fX6_letter t_3 (tw_at_ t_3)) fun r_42 =>
      mob (fX6_isIn r_42 (48 : Int32) (57 : Int32)) fun r_44 =>
      if r_44 = true then
        mo2 (fX6_figures t_3 (0 : Int32) (999 : Int32)) fun r_84 t_83 =>
        some (r_84, t_83)
      else
        mo2 (fX6_has t_3 0) fun r_48 t_47 =>
        mjn (fun (y_51 : Int32) (t_52 : Tw) =>
        if y_51 = (-1 : Int32) then
          mob (fX6_wrong t_52 (tw_at_ t_52)) fun t_57 =>
          some ((0 : Int32), t_57)
        else
          mck y_51 7 <|
          some (((tw_fact t_52) (Int32.toNatClampNeg y_51)), t_52)) fun K_53 =>
        if r_48 = true then
          K_53 (0 : Int32) t_47
        else
          mo2 (fX6_has t_47 19) fun r_60 t_59 =>
          if r_60 = true then
            K_53 (1 : Int32) t_59
          else
            mo2 (fX6_has t_59 9) fun r_64 t_63 =>
            if r_64 = true then
              K_53 (2 : Int32) t_63
            else
              mo2 (fX6_has t_63 20) fun r_68 t_67 =>
              if r_68 = true then
                K_53 (3 : Int32) t_67
              else
                mo2 (fX6_has t_67 21) fun r_72 t_71 =>
                if r_72 = true then
                  K_53 (4 : Int32) t_71
                else
                  mo2 (fX6_has t_71 22) fun r_76 t_75 =>
                  if r_76 = true then
                    K_53 (5 : Int32) t_75
                  else
                    mo2 (fX6_has t_75 23) fun r_80 t_79 =>
                    if r_80 = true then
                      K_53 (6 : Int32) t_79
                    else
                      K_53 (-1 : Int32) t_79
  else
    some ((0 : Int32), t)
theorem kX6_part {R : Room} {s : State} {args : Array Value} {own : String} {idx mc ms : Nat} {rm : Room} (hts : ∀ w ∈ lw_all, w.before args s = true) (hl : Cond.methodLink own idx yX6_part ∈ lw_all) (hrc : rm.cells = mc) (hrs : rm.slots = ms) (hR : rm.frames + 1 ≤ R.frames ∧ 8 + (2 + 11) + rm.locals ≤ R.locals) : CallW R s args own RX6 idx yX6_part cX6_part 2 (some .int) (ws_ yX6_part cX6_part 2 (some .int)) rm mc ms 0 :=
  cwV 0 hts (lw_V hl q2072 qs65 q115 q2073) rfl hrc hrs (by decide +kernel) hR
set_option maxHeartbeats 4000000 in
set_option maxRecDepth 100000 in
theorem mtX6_part (l : Launch) (D : va_G) (k : Nat → ClassId) (a : Nat → Nat) (Z : zZ) (hOK : zOK D zCl (zTys k) Z) {adK adV : Nat → Nat} (hStr : zStr Z adK adV) (t : Tw) (r : Int32) (tt : Tw) (hrun : fX6_part t = some (r, tt)) :
    CtW l yX6_part cX6_part 2 (some .int) rX6_part Z D zCl (cT k a t) [.ref (a 0)] (fun r' w' => r' = (some (.int r)) ∧ w' = cT k a tt) 0 0 := by
  refine CtW.of (by decide) (Nat.le_of_ble_eq_true rfl) ?_
  intro p e s m args below meth c A hE hA hP hD hS hz ls hl
  obtain ⟨hx, hb, hr, hml, hown, hts, hlocks, hname⟩ := hE
  have hown : s.vm.findClass RX6 = some m.cls := hown
  have hK := hOK.1 _ _ _ hz
  have hl : lv_has ls 2 [(0, .ref (a 0))] := hl
  unfold fX6_part at hrun
  refine lv_aload_n hx hb dX6_part_0 rfl (lv_at hl 0 rfl) ?_
  refine va_get (ci := 0) (v := .int (tw_fault t)) (C := RX6) (T := TX6) (N := 22) hx hb hts in_X6 hown hK hP 0 rfl rfl 12 (by decide) (hts _ q1914) (fun _ h9 => h9) rfl dX6_part_1 ?_
  refine lv_iconst (v := (-1 : Int32)) hx hb dX6_part_4 (by decide) ?_
  refine lv_icmp_eq (tgt := 10) hx hb dX6_part_5 (by decide) (fun c_1 => ?_) (fun c_1 => ?_)
  · have hrun := mif_p c_1 hrun
    refine lv_aload_n hx hb dX6_part_10 rfl (lv_at hl 0 rfl) ?_
    obtain ⟨t_3, hc_2, hrun⟩ := mob_s rfl hrun
    refine cWV00 (As := []) (ci := 0) ⟨hx, hb, hml, hown, hts⟩ hOK hz hS hA hP hD (mtX6_skip l D k a Z hOK _ _ hc_2) (kX6_skip hts q2000 rfl rfl ⟨Nat.le_of_ble_eq_true rfl, Nat.le_of_ble_eq_true rfl⟩) 0 rfl rfl rfl hl.1 rfl (lv_room (Nat.le_of_ble_eq_true rfl)) ⟨Nat.le_of_ble_eq_true rfl, Nat.le_of_ble_eq_true rfl⟩ dX6_part_11 (fun r_ w_ H locs hq hP hD hS => ?_)
    obtain ⟨rfl, rfl⟩ := hq
    refine lv_aload_n hx hb dX6_part_14 rfl (lv_at hl 0 rfl) ?_
    refine va_get (ci := 0) (v := .int (tw_at_ t_3)) (C := RX6) (T := TX6) (N := 22) hx hb hts in_X6 hown hK hP 0 rfl rfl 11 (by decide) (hts _ q1913) (fun _ h9 => h9) rfl dX6_part_15 ?_
    refine lv_aload_n hx hb dX6_part_18 rfl (lv_at hl 0 rfl) ?_
    refine va_get (ci := 0) (v := .int (tw_end_ t_3)) (C := RX6) (T := TX6) (N := 22) hx hb hts in_X6 hown hK hP 0 rfl rfl 10 (by decide) (hts _ q1912) (fun _ h9 => h9) rfl dX6_part_19 ?_
    refine lv_icmp_ge (tgt := 52) hx hb dX6_part_22 (by decide) (fun c_4 => ?_) (fun c_4 => ?_)
    · have hrun := mif_p c_4 hrun
      refine lv_aload_n hx hb dX6_part_52 rfl (lv_at hl 0 rfl) ?_
      refine va_ldcS hx hb hown (sr25 hStr hz) dX6_part_53 ?_
      obtain ⟨r_7, t_6, hc_5, hrun⟩ := mo2_s rfl hrun
      refine cWV00 (As := [.ref (adK 0)]) (ci := 0) ⟨hx, hb, hml, hown, hts⟩ hOK hz hS hA hP hD (mtX6_has l D k a Z hOK hStr _ _ _ _ hc_5) (kX6_has hts q2017 rfl rfl ⟨Nat.le_of_ble_eq_true rfl, Nat.le_of_ble_eq_true rfl⟩) 0 rfl rfl rfl hl.1 rfl (lv_room (Nat.le_of_ble_eq_true rfl)) ⟨Nat.le_of_ble_eq_true rfl, Nat.le_of_ble_eq_true rfl⟩ dX6_part_55 (fun r_ w_ H locs hq hP hD hS => ?_)
      obtain ⟨rfl, rfl⟩ := hq
      obtain ⟨K_12, hK_12, hrun⟩ := mjn_s hrun
      have hj_9 : ∀ (y_10 : Int32) (t_11 : Tw), ∀ (H : Heap) (locs : List Loc), va_P D zCl (cT k a t_11) H → va_D A (cT k a t_11) → va_S A s.heap H locs → ∀ ls : Array Slot, lv_has ls 2 [(0, .ref (a 0))] → K_12 y_10 t_11 = some (r, tt) → W p l e rX6_part s m args below meth c H locs 0 0 (MQ below (QWr (fun r' w' => r' = (some (.int r)) ∧ w' = cT k a tt) D zCl A) args s 0 0 A) (F0 m 145 ls [.int y_10]) := by
        intro y_10 t_11 H locs hP hD hS ls hl hrun
        rw [hK_12] at hrun
        refine lv_istore_n (lv' := [(1, .int y_10), (0, .ref (a 0))]) hx hb dX6_part_145 rfl hl (by decide) rfl (fun ls hl => ?_)
        refine lv_iload_n hx hb dX6_part_146 rfl (lv_at hl 0 rfl) ?_
        refine lv_iconst (v := (-1 : Int32)) hx hb dX6_part_147 (by decide) ?_
        refine lv_icmp_ne (tgt := 161) hx hb dX6_part_148 (by decide) (fun c_13 => ?_) (fun c_13 => ?_)
        · have hrun := mif_n c_13 hrun
          refine lv_aload_n hx hb dX6_part_161 rfl (lv_at hl 1 rfl) ?_
          refine va_get (ci := 0) (v := .ref (a 6)) (C := RX6) (T := TX6) (N := 22) hx hb hts in_X6 hown hK hP 0 rfl rfl 14 (by decide) (hts _ q1916) (fun _ h9 => h9) rfl dX6_part_162 ?_
          refine lv_iload_n hx hb dX6_part_165 rfl (lv_at hl 0 rfl) ?_
          obtain ⟨hb_14, hrun⟩ := mck_s rfl hrun
          refine va_iald hx hb hK hP 6 0 rfl rfl hb_14 dX6_part_166 ?_
          cases hrun
          exact retW_i hx hb hr hlocks hP hD hS ⟨rfl, rfl⟩ dX6_part_167
        have hrun := mif_p c_13 hrun
        refine lv_aload_n hx hb dX6_part_151 rfl (lv_at hl 1 rfl) ?_
        refine lv_aload_n hx hb dX6_part_152 rfl (lv_at hl 1 rfl) ?_
        refine va_get (ci := 0) (v := .int (tw_at_ t_11)) (C := RX6) (T := TX6) (N := 22) hx hb hts in_X6 hown hK hP 0 rfl rfl 11 (by decide) (hts _ q1913) (fun _ h9 => h9) rfl dX6_part_153 ?_
        obtain ⟨t_16, hc_15, hrun⟩ := mob_s rfl hrun
        refine cWV00 (As := [.int (tw_at_ t_11)]) (ci := 0) ⟨hx, hb, hml, hown, hts⟩ hOK hz hS hA hP hD (mtX6_wrong l D k a Z hOK _ _ _ hc_15) (kX6_wrong hts q2008 rfl rfl ⟨Nat.le_of_ble_eq_true rfl, Nat.le_of_ble_eq_true rfl⟩) 0 rfl rfl rfl hl.1 rfl (lv_room (Nat.le_of_ble_eq_true rfl)) ⟨Nat.le_of_ble_eq_true rfl, Nat.le_of_ble_eq_true rfl⟩ dX6_part_156 (fun r_ w_ H locs hq hP hD hS => ?_)
        obtain ⟨rfl, rfl⟩ := hq
        refine lv_iconst (v := (0 : Int32)) hx hb dX6_part_159 (by decide) ?_
        cases hrun
        exact retW_i hx hb hr hlocks hP hD hS ⟨rfl, rfl⟩ dX6_part_160
      refine lv_if_eq (tgt := 65) hx hb dX6_part_58 (by decide) (fun c_8 => ?_) (fun c_8 => ?_)
      · have hrun := mif_n (bz_z c_8) hrun
        refine lv_aload_n hx hb dX6_part_65 rfl (lv_at hl 0 rfl) ?_
        refine va_ldcS hx hb hown (sr26 hStr hz) dX6_part_66 ?_
        obtain ⟨r_19, t_18, hc_17, hrun⟩ := mo2_s rfl hrun
        refine cWV00 (As := [.ref (adK 19)]) (ci := 0) ⟨hx, hb, hml, hown, hts⟩ hOK hz hS hA hP hD (mtX6_has l D k a Z hOK hStr _ _ _ _ hc_17) (kX6_has hts q2017 rfl rfl ⟨Nat.le_of_ble_eq_true rfl, Nat.le_of_ble_eq_true rfl⟩) 0 rfl rfl rfl hl.1 rfl (lv_room (Nat.le_of_ble_eq_true rfl)) ⟨Nat.le_of_ble_eq_true rfl, Nat.le_of_ble_eq_true rfl⟩ dX6_part_68 (fun r_ w_ H locs hq hP hD hS => ?_)
        obtain ⟨rfl, rfl⟩ := hq
        refine lv_if_eq (tgt := 78) hx hb dX6_part_71 (by decide) (fun c_20 => ?_) (fun c_20 => ?_)
        · have hrun := mif_n (bz_z c_20) hrun
          refine lv_aload_n hx hb dX6_part_78 rfl (lv_at hl 0 rfl) ?_
          refine va_ldcS hx hb hown (sr27 hStr hz) dX6_part_79 ?_
          obtain ⟨r_23, t_22, hc_21, hrun⟩ := mo2_s rfl hrun
          refine cWV00 (As := [.ref (adK 9)]) (ci := 0) ⟨hx, hb, hml, hown, hts⟩ hOK hz hS hA hP hD (mtX6_has l D k a Z hOK hStr _ _ _ _ hc_21) (kX6_has hts q2017 rfl rfl ⟨Nat.le_of_ble_eq_true rfl, Nat.le_of_ble_eq_true rfl⟩) 0 rfl rfl rfl hl.1 rfl (lv_room (Nat.le_of_ble_eq_true rfl)) ⟨Nat.le_of_ble_eq_true rfl, Nat.le_of_ble_eq_true rfl⟩ dX6_part_81 (fun r_ w_ H locs hq hP hD hS => ?_)
          obtain ⟨rfl, rfl⟩ := hq
          refine lv_if_eq (tgt := 91) hx hb dX6_part_84 (by decide) (fun c_24 => ?_) (fun c_24 => ?_)
          · have hrun := mif_n (bz_z c_24) hrun
            refine lv_aload_n hx hb dX6_part_91 rfl (lv_at hl 0 rfl) ?_
            refine va_ldcS hx hb hown (sr28 hStr hz) dX6_part_92 ?_
            obtain ⟨r_27, t_26, hc_25, hrun⟩ := mo2_s rfl hrun
            refine cWV00 (As := [.ref (adK 20)]) (ci := 0) ⟨hx, hb, hml, hown, hts⟩ hOK hz hS hA hP hD (mtX6_has l D k a Z hOK hStr _ _ _ _ hc_25) (kX6_has hts q2017 rfl rfl ⟨Nat.le_of_ble_eq_true rfl, Nat.le_of_ble_eq_true rfl⟩) 0 rfl rfl rfl hl.1 rfl (lv_room (Nat.le_of_ble_eq_true rfl)) ⟨Nat.le_of_ble_eq_true rfl, Nat.le_of_ble_eq_true rfl⟩ dX6_part_94 (fun r_ w_ H locs hq hP hD hS => ?_)
            obtain ⟨rfl, rfl⟩ := hq
            refine lv_if_eq (tgt := 104) hx hb dX6_part_97 (by decide) (fun c_28 => ?_) (fun c_28 => ?_)
            · have hrun := mif_n (bz_z c_28) hrun
              refine lv_aload_n hx hb dX6_part_104 rfl (lv_at hl 0 rfl) ?_
              refine va_ldcS hx hb hown (sr29 hStr hz) dX6_part_105 ?_
              obtain ⟨r_31, t_30, hc_29, hrun⟩ := mo2_s rfl hrun
              refine cWV00 (As := [.ref (adK 21)]) (ci := 0) ⟨hx, hb, hml, hown, hts⟩ hOK hz hS hA hP hD (mtX6_has l D k a Z hOK hStr _ _ _ _ hc_29) (kX6_has hts q2017 rfl rfl ⟨Nat.le_of_ble_eq_true rfl, Nat.le_of_ble_eq_true rfl⟩) 0 rfl rfl rfl hl.1 rfl (lv_room (Nat.le_of_ble_eq_true rfl)) ⟨Nat.le_of_ble_eq_true rfl, Nat.le_of_ble_eq_true rfl⟩ dX6_part_107 (fun r_ w_ H locs hq hP hD hS => ?_)
              obtain ⟨rfl, rfl⟩ := hq
              refine lv_if_eq (tgt := 117) hx hb dX6_part_110 (by decide) (fun c_32 => ?_) (fun c_32 => ?_)
              · have hrun := mif_n (bz_z c_32) hrun
                refine lv_aload_n hx hb dX6_part_117 rfl (lv_at hl 0 rfl) ?_
                refine va_ldcS hx hb hown (sr30 hStr hz) dX6_part_118 ?_
                obtain ⟨r_35, t_34, hc_33, hrun⟩ := mo2_s rfl hrun
                refine cWV00 (As := [.ref (adK 22)]) (ci := 0) ⟨hx, hb, hml, hown, hts⟩ hOK hz hS hA hP hD (mtX6_has l D k a Z hOK hStr _ _ _ _ hc_33) (kX6_has hts q2017 rfl rfl ⟨Nat.le_of_ble_eq_true rfl, Nat.le_of_ble_eq_true rfl⟩) 0 rfl rfl rfl hl.1 rfl (lv_room (Nat.le_of_ble_eq_true rfl)) ⟨Nat.le_of_ble_eq_true rfl, Nat.le_of_ble_eq_true rfl⟩ dX6_part_120 (fun r_ w_ H locs hq hP hD hS => ?_)
                obtain ⟨rfl, rfl⟩ := hq
                refine lv_if_eq (tgt := 130) hx hb dX6_part_123 (by decide) (fun c_36 => ?_) (fun c_36 => ?_)
                · have hrun := mif_n (bz_z c_36) hrun
                  refine lv_aload_n hx hb dX6_part_130 rfl (lv_at hl 0 rfl) ?_
                  refine va_ldcS hx hb hown (sr31 hStr hz) dX6_part_131 ?_
                  obtain ⟨r_39, t_38, hc_37, hrun⟩ := mo2_s rfl hrun
                  refine cWV00 (As := [.ref (adK 23)]) (ci := 0) ⟨hx, hb, hml, hown, hts⟩ hOK hz hS hA hP hD (mtX6_has l D k a Z hOK hStr _ _ _ _ hc_37) (kX6_has hts q2017 rfl rfl ⟨Nat.le_of_ble_eq_true rfl, Nat.le_of_ble_eq_true rfl⟩) 0 rfl rfl rfl hl.1 rfl (lv_room (Nat.le_of_ble_eq_true rfl)) ⟨Nat.le_of_ble_eq_true rfl, Nat.le_of_ble_eq_true rfl⟩ dX6_part_133 (fun r_ w_ H locs hq hP hD hS => ?_)
                  obtain ⟨rfl, rfl⟩ := hq
                  refine lv_if_eq (tgt := 144) hx hb dX6_part_136 (by decide) (fun c_40 => ?_) (fun c_40 => ?_)
                  · have hrun := mif_n (bz_z c_40) hrun
                    refine lv_iconst (v := (-1 : Int32)) hx hb dX6_part_144 (by decide) ?_
                    exact hj_9 (-1 : Int32) t_38 _ _ hP hD hS ls (lv_sub hl [0] rfl) hrun
                  have hrun := mif_p (bz_nz c_40) hrun
                  refine lv_bipush (v := (6 : Int32)) hx hb dX6_part_139 (by decide) ?_
                  refine lv_goto (tgt := 145) hx hb dX6_part_141 (by decide) ?_
                  exact hj_9 (6 : Int32) t_38 _ _ hP hD hS ls (lv_sub hl [0] rfl) hrun
                have hrun := mif_p (bz_nz c_36) hrun
                refine lv_iconst (v := (5 : Int32)) hx hb dX6_part_126 (by decide) ?_
                refine lv_goto (tgt := 145) hx hb dX6_part_127 (by decide) ?_
                exact hj_9 (5 : Int32) t_34 _ _ hP hD hS ls (lv_sub hl [0] rfl) hrun
              have hrun := mif_p (bz_nz c_32) hrun
              refine lv_iconst (v := (4 : Int32)) hx hb dX6_part_113 (by decide) ?_
              refine lv_goto (tgt := 145) hx hb dX6_part_114 (by decide) ?_
              exact hj_9 (4 : Int32) t_30 _ _ hP hD hS ls (lv_sub hl [0] rfl) hrun
            have hrun := mif_p (bz_nz c_28) hrun
            refine lv_iconst (v := (3 : Int32)) hx hb dX6_part_100 (by decide) ?_
            refine lv_goto (tgt := 145) hx hb dX6_part_101 (by decide) ?_
            exact hj_9 (3 : Int32) t_26 _ _ hP hD hS ls (lv_sub hl [0] rfl) hrun
          have hrun := mif_p (bz_nz c_24) hrun
          refine lv_iconst (v := (2 : Int32)) hx hb dX6_part_87 (by decide) ?_
          refine lv_goto (tgt := 145) hx hb dX6_part_88 (by decide) ?_
          exact hj_9 (2 : Int32) t_22 _ _ hP hD hS ls (lv_sub hl [0] rfl) hrun
        have hrun := mif_p (bz_nz c_20) hrun
        refine lv_iconst (v := (1 : Int32)) hx hb dX6_part_74 (by decide) ?_
        refine lv_goto (tgt := 145) hx hb dX6_part_75 (by decide) ?_
        exact hj_9 (1 : Int32) t_18 _ _ hP hD hS ls (lv_sub hl [0] rfl) hrun
      have hrun := mif_p (bz_nz c_8) hrun
      refine lv_iconst (v := (0 : Int32)) hx hb dX6_part_61 (by decide) ?_
      refine lv_goto (tgt := 145) hx hb dX6_part_62 (by decide) ?_
      exact hj_9 (0 : Int32) t_6 _ _ hP hD hS ls (lv_sub hl [0] rfl) hrun
    have hrun := mif_n c_4 hrun
    refine lv_aload_n hx hb dX6_part_25 rfl (lv_at hl 0 rfl) ?_
    refine lv_aload_n hx hb dX6_part_26 rfl (lv_at hl 0 rfl) ?_
    refine va_get (ci := 0) (v := .int (tw_at_ t_3)) (C := RX6) (T := TX6) (N := 22) hx hb hts in_X6 hown hK hP 0 rfl rfl 11 (by decide) (hts _ q1913) (fun _ h9 => h9) rfl dX6_part_27 ?_
    obtain ⟨r_42, hc_41, hrun⟩ := mob_s rfl hrun
    refine cRV (As := [.int (tw_at_ t_3)]) (ci := 0) ⟨hx, hb, hml, hown, hts⟩ hOK hz hS hP (mtX6_letter l D k a Z hOK _ _ _ hc_41) (kX6_letter hts q2004 rfl rfl ⟨Nat.le_of_ble_eq_true rfl, Nat.le_of_ble_eq_true rfl⟩) 0 rfl rfl rfl hl.1 rfl (lv_room (Nat.le_of_ble_eq_true rfl)) ⟨Nat.le_of_ble_eq_true rfl, Nat.le_of_ble_eq_true rfl⟩ dX6_part_30 ?_
    refine lv_bipush (v := (48 : Int32)) hx hb dX6_part_33 (by decide) ?_
    refine lv_bipush (v := (57 : Int32)) hx hb dX6_part_35 (by decide) ?_
    obtain ⟨r_44, hc_43, hrun⟩ := mob_s rfl hrun
    refine cRS (ws := []) (As := [.int r_42, .int (48 : Int32), .int (57 : Int32)]) ⟨hx, hb, hml, hown, hts⟩ hOK hz hS zP0 (mtX6_isIn l D Z hOK _ _ _ _ hc_43) (kX6_isIn hts q1981 rfl rfl ⟨Nat.le_of_ble_eq_true rfl, Nat.le_of_ble_eq_true rfl⟩) rfl hl.1 rfl (lv_room (Nat.le_of_ble_eq_true rfl)) ⟨Nat.le_of_ble_eq_true rfl, Nat.le_of_ble_eq_true rfl⟩ dX6_part_37 ?_
    refine lv_if_eq (tgt := 52) hx hb dX6_part_40 (by decide) (fun c_45 => ?_) (fun c_45 => ?_)
    · have hrun := mif_n (bz_z c_45) hrun
      refine lv_aload_n hx hb dX6_part_52 rfl (lv_at hl 0 rfl) ?_
      refine va_ldcS hx hb hown (sr25 hStr hz) dX6_part_53 ?_
      obtain ⟨r_48, t_47, hc_46, hrun⟩ := mo2_s rfl hrun
      refine cWV00 (As := [.ref (adK 0)]) (ci := 0) ⟨hx, hb, hml, hown, hts⟩ hOK hz hS hA hP hD (mtX6_has l D k a Z hOK hStr _ _ _ _ hc_46) (kX6_has hts q2017 rfl rfl ⟨Nat.le_of_ble_eq_true rfl, Nat.le_of_ble_eq_true rfl⟩) 0 rfl rfl rfl hl.1 rfl (lv_room (Nat.le_of_ble_eq_true rfl)) ⟨Nat.le_of_ble_eq_true rfl, Nat.le_of_ble_eq_true rfl⟩ dX6_part_55 (fun r_ w_ H locs hq hP hD hS => ?_)
      obtain ⟨rfl, rfl⟩ := hq
      obtain ⟨K_53, hK_53, hrun⟩ := mjn_s hrun
      have hj_50 : ∀ (y_51 : Int32) (t_52 : Tw), ∀ (H : Heap) (locs : List Loc), va_P D zCl (cT k a t_52) H → va_D A (cT k a t_52) → va_S A s.heap H locs → ∀ ls : Array Slot, lv_has ls 2 [(0, .ref (a 0))] → K_53 y_51 t_52 = some (r, tt) → W p l e rX6_part s m args below meth c H locs 0 0 (MQ below (QWr (fun r' w' => r' = (some (.int r)) ∧ w' = cT k a tt) D zCl A) args s 0 0 A) (F0 m 145 ls [.int y_51]) := by
        intro y_51 t_52 H locs hP hD hS ls hl hrun
        rw [hK_53] at hrun
        refine lv_istore_n (lv' := [(1, .int y_51), (0, .ref (a 0))]) hx hb dX6_part_145 rfl hl (by decide) rfl (fun ls hl => ?_)
        refine lv_iload_n hx hb dX6_part_146 rfl (lv_at hl 0 rfl) ?_
        refine lv_iconst (v := (-1 : Int32)) hx hb dX6_part_147 (by decide) ?_
        refine lv_icmp_ne (tgt := 161) hx hb dX6_part_148 (by decide) (fun c_54 => ?_) (fun c_54 => ?_)
        · have hrun := mif_n c_54 hrun
          refine lv_aload_n hx hb dX6_part_161 rfl (lv_at hl 1 rfl) ?_
          refine va_get (ci := 0) (v := .ref (a 6)) (C := RX6) (T := TX6) (N := 22) hx hb hts in_X6 hown hK hP 0 rfl rfl 14 (by decide) (hts _ q1916) (fun _ h9 => h9) rfl dX6_part_162 ?_
          refine lv_iload_n hx hb dX6_part_165 rfl (lv_at hl 0 rfl) ?_
          obtain ⟨hb_55, hrun⟩ := mck_s rfl hrun
          refine va_iald hx hb hK hP 6 0 rfl rfl hb_55 dX6_part_166 ?_
          cases hrun
          exact retW_i hx hb hr hlocks hP hD hS ⟨rfl, rfl⟩ dX6_part_167
        have hrun := mif_p c_54 hrun
        refine lv_aload_n hx hb dX6_part_151 rfl (lv_at hl 1 rfl) ?_
        refine lv_aload_n hx hb dX6_part_152 rfl (lv_at hl 1 rfl) ?_
        refine va_get (ci := 0) (v := .int (tw_at_ t_52)) (C := RX6) (T := TX6) (N := 22) hx hb hts in_X6 hown hK hP 0 rfl rfl 11 (by decide) (hts _ q1913) (fun _ h9 => h9) rfl dX6_part_153 ?_
        obtain ⟨t_57, hc_56, hrun⟩ := mob_s rfl hrun
        refine cWV00 (As := [.int (tw_at_ t_52)]) (ci := 0) ⟨hx, hb, hml, hown, hts⟩ hOK hz hS hA hP hD (mtX6_wrong l D k a Z hOK _ _ _ hc_56) (kX6_wrong hts q2008 rfl rfl ⟨Nat.le_of_ble_eq_true rfl, Nat.le_of_ble_eq_true rfl⟩) 0 rfl rfl rfl hl.1 rfl (lv_room (Nat.le_of_ble_eq_true rfl)) ⟨Nat.le_of_ble_eq_true rfl, Nat.le_of_ble_eq_true rfl⟩ dX6_part_156 (fun r_ w_ H locs hq hP hD hS => ?_)
        obtain ⟨rfl, rfl⟩ := hq
        refine lv_iconst (v := (0 : Int32)) hx hb dX6_part_159 (by decide) ?_
        cases hrun
        exact retW_i hx hb hr hlocks hP hD hS ⟨rfl, rfl⟩ dX6_part_160
      refine lv_if_eq (tgt := 65) hx hb dX6_part_58 (by decide) (fun c_49 => ?_) (fun c_49 => ?_)
      · have hrun := mif_n (bz_z c_49) hrun
        refine lv_aload_n hx hb dX6_part_65 rfl (lv_at hl 0 rfl) ?_
        refine va_ldcS hx hb hown (sr26 hStr hz) dX6_part_66 ?_
        obtain ⟨r_60, t_59, hc_58, hrun⟩ := mo2_s rfl hrun
        refine cWV00 (As := [.ref (adK 19)]) (ci := 0) ⟨hx, hb, hml, hown, hts⟩ hOK hz hS hA hP hD (mtX6_has l D k a Z hOK hStr _ _ _ _ hc_58) (kX6_has hts q2017 rfl rfl ⟨Nat.le_of_ble_eq_true rfl, Nat.le_of_ble_eq_true rfl⟩) 0 rfl rfl rfl hl.1 rfl (lv_room (Nat.le_of_ble_eq_true rfl)) ⟨Nat.le_of_ble_eq_true rfl, Nat.le_of_ble_eq_true rfl⟩ dX6_part_68 (fun r_ w_ H locs hq hP hD hS => ?_)
        obtain ⟨rfl, rfl⟩ := hq
        refine lv_if_eq (tgt := 78) hx hb dX6_part_71 (by decide) (fun c_61 => ?_) (fun c_61 => ?_)
        · have hrun := mif_n (bz_z c_61) hrun
          refine lv_aload_n hx hb dX6_part_78 rfl (lv_at hl 0 rfl) ?_
          refine va_ldcS hx hb hown (sr27 hStr hz) dX6_part_79 ?_
          obtain ⟨r_64, t_63, hc_62, hrun⟩ := mo2_s rfl hrun
          refine cWV00 (As := [.ref (adK 9)]) (ci := 0) ⟨hx, hb, hml, hown, hts⟩ hOK hz hS hA hP hD (mtX6_has l D k a Z hOK hStr _ _ _ _ hc_62) (kX6_has hts q2017 rfl rfl ⟨Nat.le_of_ble_eq_true rfl, Nat.le_of_ble_eq_true rfl⟩) 0 rfl rfl rfl hl.1 rfl (lv_room (Nat.le_of_ble_eq_true rfl)) ⟨Nat.le_of_ble_eq_true rfl, Nat.le_of_ble_eq_true rfl⟩ dX6_part_81 (fun r_ w_ H locs hq hP hD hS => ?_)
          obtain ⟨rfl, rfl⟩ := hq
          refine lv_if_eq (tgt := 91) hx hb dX6_part_84 (by decide) (fun c_65 => ?_) (fun c_65 => ?_)
          · have hrun := mif_n (bz_z c_65) hrun
            refine lv_aload_n hx hb dX6_part_91 rfl (lv_at hl 0 rfl) ?_
            refine va_ldcS hx hb hown (sr28 hStr hz) dX6_part_92 ?_
            obtain ⟨r_68, t_67, hc_66, hrun⟩ := mo2_s rfl hrun
            refine cWV00 (As := [.ref (adK 20)]) (ci := 0) ⟨hx, hb, hml, hown, hts⟩ hOK hz hS hA hP hD (mtX6_has l D k a Z hOK hStr _ _ _ _ hc_66) (kX6_has hts q2017 rfl rfl ⟨Nat.le_of_ble_eq_true rfl, Nat.le_of_ble_eq_true rfl⟩) 0 rfl rfl rfl hl.1 rfl (lv_room (Nat.le_of_ble_eq_true rfl)) ⟨Nat.le_of_ble_eq_true rfl, Nat.le_of_ble_eq_true rfl⟩ dX6_part_94 (fun r_ w_ H locs hq hP hD hS => ?_)
            obtain ⟨rfl, rfl⟩ := hq
            refine lv_if_eq (tgt := 104) hx hb dX6_part_97 (by decide) (fun c_69 => ?_) (fun c_69 => ?_)
            · have hrun := mif_n (bz_z c_69) hrun
              refine lv_aload_n hx hb dX6_part_104 rfl (lv_at hl 0 rfl) ?_
              refine va_ldcS hx hb hown (sr29 hStr hz) dX6_part_105 ?_
              obtain ⟨r_72, t_71, hc_70, hrun⟩ := mo2_s rfl hrun
              refine cWV00 (As := [.ref (adK 21)]) (ci := 0) ⟨hx, hb, hml, hown, hts⟩ hOK hz hS hA hP hD (mtX6_has l D k a Z hOK hStr _ _ _ _ hc_70) (kX6_has hts q2017 rfl rfl ⟨Nat.le_of_ble_eq_true rfl, Nat.le_of_ble_eq_true rfl⟩) 0 rfl rfl rfl hl.1 rfl (lv_room (Nat.le_of_ble_eq_true rfl)) ⟨Nat.le_of_ble_eq_true rfl, Nat.le_of_ble_eq_true rfl⟩ dX6_part_107 (fun r_ w_ H locs hq hP hD hS => ?_)
              obtain ⟨rfl, rfl⟩ := hq
              refine lv_if_eq (tgt := 117) hx hb dX6_part_110 (by decide) (fun c_73 => ?_) (fun c_73 => ?_)
              · have hrun := mif_n (bz_z c_73) hrun
                refine lv_aload_n hx hb dX6_part_117 rfl (lv_at hl 0 rfl) ?_
                refine va_ldcS hx hb hown (sr30 hStr hz) dX6_part_118 ?_
                obtain ⟨r_76, t_75, hc_74, hrun⟩ := mo2_s rfl hrun
                refine cWV00 (As := [.ref (adK 22)]) (ci := 0) ⟨hx, hb, hml, hown, hts⟩ hOK hz hS hA hP hD (mtX6_has l D k a Z hOK hStr _ _ _ _ hc_74) (kX6_has hts q2017 rfl rfl ⟨Nat.le_of_ble_eq_true rfl, Nat.le_of_ble_eq_true rfl⟩) 0 rfl rfl rfl hl.1 rfl (lv_room (Nat.le_of_ble_eq_true rfl)) ⟨Nat.le_of_ble_eq_true rfl, Nat.le_of_ble_eq_true rfl⟩ dX6_part_120 (fun r_ w_ H locs hq hP hD hS => ?_)
                obtain ⟨rfl, rfl⟩ := hq
                refine lv_if_eq (tgt := 130) hx hb dX6_part_123 (by decide) (fun c_77 => ?_) (fun c_77 => ?_)
                · have hrun := mif_n (bz_z c_77) hrun
                  refine lv_aload_n hx hb dX6_part_130 rfl (lv_at hl 0 rfl) ?_
                  refine va_ldcS hx hb hown (sr31 hStr hz) dX6_part_131 ?_
                  obtain ⟨r_80, t_79, hc_78, hrun⟩ := mo2_s rfl hrun
                  refine cWV00 (As := [.ref (adK 23)]) (ci := 0) ⟨hx, hb, hml, hown, hts⟩ hOK hz hS hA hP hD (mtX6_has l D k a Z hOK hStr _ _ _ _ hc_78) (kX6_has hts q2017 rfl rfl ⟨Nat.le_of_ble_eq_true rfl, Nat.le_of_ble_eq_true rfl⟩) 0 rfl rfl rfl hl.1 rfl (lv_room (Nat.le_of_ble_eq_true rfl)) ⟨Nat.le_of_ble_eq_true rfl, Nat.le_of_ble_eq_true rfl⟩ dX6_part_133 (fun r_ w_ H locs hq hP hD hS => ?_)
                  obtain ⟨rfl, rfl⟩ := hq
                  refine lv_if_eq (tgt := 144) hx hb dX6_part_136 (by decide) (fun c_81 => ?_) (fun c_81 => ?_)
                  · have hrun := mif_n (bz_z c_81) hrun
                    refine lv_iconst (v := (-1 : Int32)) hx hb dX6_part_144 (by decide) ?_
                    exact hj_50 (-1 : Int32) t_79 _ _ hP hD hS ls (lv_sub hl [0] rfl) hrun
                  have hrun := mif_p (bz_nz c_81) hrun
                  refine lv_bipush (v := (6 : Int32)) hx hb dX6_part_139 (by decide) ?_
                  refine lv_goto (tgt := 145) hx hb dX6_part_141 (by decide) ?_
                  exact hj_50 (6 : Int32) t_79 _ _ hP hD hS ls (lv_sub hl [0] rfl) hrun
                have hrun := mif_p (bz_nz c_77) hrun
                refine lv_iconst (v := (5 : Int32)) hx hb dX6_part_126 (by decide) ?_
                refine lv_goto (tgt := 145) hx hb dX6_part_127 (by decide) ?_
                exact hj_50 (5 : Int32) t_75 _ _ hP hD hS ls (lv_sub hl [0] rfl) hrun
              have hrun := mif_p (bz_nz c_73) hrun
              refine lv_iconst (v := (4 : Int32)) hx hb dX6_part_113 (by decide) ?_
              refine lv_goto (tgt := 145) hx hb dX6_part_114 (by decide) ?_
              exact hj_50 (4 : Int32) t_71 _ _ hP hD hS ls (lv_sub hl [0] rfl) hrun
            have hrun := mif_p (bz_nz c_69) hrun
            refine lv_iconst (v := (3 : Int32)) hx hb dX6_part_100 (by decide) ?_
            refine lv_goto (tgt := 145) hx hb dX6_part_101 (by decide) ?_
            exact hj_50 (3 : Int32) t_67 _ _ hP hD hS ls (lv_sub hl [0] rfl) hrun
          have hrun := mif_p (bz_nz c_65) hrun
          refine lv_iconst (v := (2 : Int32)) hx hb dX6_part_87 (by decide) ?_
          refine lv_goto (tgt := 145) hx hb dX6_part_88 (by decide) ?_
          exact hj_50 (2 : Int32) t_63 _ _ hP hD hS ls (lv_sub hl [0] rfl) hrun
        have hrun := mif_p (bz_nz c_61) hrun
        refine lv_iconst (v := (1 : Int32)) hx hb dX6_part_74 (by decide) ?_
        refine lv_goto (tgt := 145) hx hb dX6_part_75 (by decide) ?_
        exact hj_50 (1 : Int32) t_59 _ _ hP hD hS ls (lv_sub hl [0] rfl) hrun
      have hrun := mif_p (bz_nz c_49) hrun
      refine lv_iconst (v := (0 : Int32)) hx hb dX6_part_61 (by decide) ?_
      refine lv_goto (tgt := 145) hx hb dX6_part_62 (by decide) ?_
      exact hj_50 (0 : Int32) t_47 _ _ hP hD hS ls (lv_sub hl [0] rfl) hrun
    have hrun := mif_p (bz_nz c_45) hrun
    refine lv_aload_n hx hb dX6_part_43 rfl (lv_at hl 0 rfl) ?_
    refine lv_iconst (v := (0 : Int32)) hx hb dX6_part_44 (by decide) ?_
    refine lv_sipush (v := (999 : Int32)) hx hb dX6_part_45 (by decide) ?_
    obtain ⟨r_84, t_83, hc_82, hrun⟩ := mo2_s rfl hrun
    refine cWV00 (As := [.int (0 : Int32), .int (999 : Int32)]) (ci := 0) ⟨hx, hb, hml, hown, hts⟩ hOK hz hS hA hP hD (mtX6_figures l D k a Z hOK _ _ _ _ _ hc_82) (kX6_figures hts q2034 rfl rfl ⟨Nat.le_of_ble_eq_true rfl, Nat.le_of_ble_eq_true rfl⟩) 0 rfl rfl rfl hl.1 rfl (lv_room (Nat.le_of_ble_eq_true rfl)) ⟨Nat.le_of_ble_eq_true rfl, Nat.le_of_ble_eq_true rfl⟩ dX6_part_48 (fun r_ w_ H locs hq hP hD hS => ?_)
    obtain ⟨rfl, rfl⟩ := hq
    cases hrun
    exact retW_i hx hb hr hlocks hP hD hS ⟨rfl, rfl⟩ dX6_part_51
  have hrun := mif_n c_1 hrun
  refine lv_iconst (v := (0 : Int32)) hx hb dX6_part_8 (by decide) ?_
  cases hrun
  exact retW_i hx hb hr hlocks hP hD hS ⟨rfl, rfl⟩ dX6_part_9
def rX6_after : Room := { frames := 5, cells := 0, slots := 0, locals := 108 }
noncomputable def fX6_after (t : Tw) (p1 : Nat) (p2 : Int32) (p3 : Int32) : Option (Int32 × Tw) :=
  mjn (fun (t_3 : Tw) =>
  mo2 (fX6_figures t_3 p2 p3) fun r_7 t_6 =>
  some (r_7, t_6)) fun K_4 =>
  if (tw_fault t) = (-1 : Int32) then
    mo2 (fX6_has t p1) fun r_10 t_9 =>
    if r_10 = true then
      K_4 t_9
    else
      mob (fX6_wrong t_9 (tw_at_ t_9)) fun t_13 =>
      K_4 t_13
  else
    K_4 t
theorem kX6_after {R : Room} {s : State} {args : Array Value} {own : String} {idx mc ms : Nat} {rm : Room} (hts : ∀ w ∈ lw_all, w.before args s = true) (hl : Cond.methodLink own idx yX6_after ∈ lw_all) (hrc : rm.cells = mc) (hrs : rm.slots = ms) (hR : rm.frames + 1 ≤ R.frames ∧ 8 + (4 + 11) + rm.locals ≤ R.locals) : CallW R s args own RX6 idx yX6_after cX6_after 4 (some .int) (ws_ yX6_after cX6_after 4 (some .int)) rm mc ms 3 :=
  cwV 3 hts (lw_V hl q2093 qs68 q115 q2094) rfl hrc hrs (by decide +kernel) hR
set_option maxHeartbeats 4000000 in
set_option maxRecDepth 100000 in
theorem mtX6_after (l : Launch) (D : va_G) (k : Nat → ClassId) (a : Nat → Nat) (Z : zZ) (hOK : zOK D zCl (zTys k) Z) {adK adV : Nat → Nat} (hStr : zStr Z adK adV) (t : Tw) (p1 : Nat) (p2 : Int32) (p3 : Int32) (r : Int32) (tt : Tw) (hrun : fX6_after t p1 p2 p3 = some (r, tt)) :
    CtW l yX6_after cX6_after 4 (some .int) rX6_after Z D zCl (cT k a t) [.ref (a 0), .ref (adK p1), .int p2, .int p3] (fun r' w' => r' = (some (.int r)) ∧ w' = cT k a tt) 0 0 := by
  refine CtW.of (by decide) (Nat.le_of_ble_eq_true rfl) ?_
  intro p e s m args below meth c A hE hA hP hD hS hz ls hl
  obtain ⟨hx, hb, hr, hml, hown, hts, hlocks, hname⟩ := hE
  have hown : s.vm.findClass RX6 = some m.cls := hown
  have hK := hOK.1 _ _ _ hz
  have hl : lv_has ls 4 [(0, .ref (a 0)), (1, .ref (adK p1)), (2, .int p2), (3, .int p3)] := hl
  unfold fX6_after at hrun
  refine lv_aload_n hx hb dX6_after_0 rfl (lv_at hl 0 rfl) ?_
  refine va_get (ci := 0) (v := .int (tw_fault t)) (C := RX6) (T := TX6) (N := 22) hx hb hts in_X6 hown hK hP 0 rfl rfl 12 (by decide) (hts _ q1914) (fun _ h9 => h9) rfl dX6_after_1 ?_
  refine lv_iconst (v := (-1 : Int32)) hx hb dX6_after_4 (by decide) ?_
  obtain ⟨K_4, hK_4, hrun⟩ := mjn_s hrun
  have hj_2 : ∀ (t_3 : Tw), ∀ (H : Heap) (locs : List Loc), va_P D zCl (cT k a t_3) H → va_D A (cT k a t_3) → va_S A s.heap H locs → ∀ ls : Array Slot, lv_has ls 4 [(0, .ref (a 0)), (2, .int p2), (3, .int p3)] → K_4 t_3 = some (r, tt) → W p l e rX6_after s m args below meth c H locs 0 0 (MQ below (QWr (fun r' w' => r' = (some (.int r)) ∧ w' = cT k a tt) D zCl A) args s 0 0 A) (F0 m 24 ls []) := by
    intro t_3 H locs hP hD hS ls hl hrun
    rw [hK_4] at hrun
    refine lv_aload_n hx hb dX6_after_24 rfl (lv_at hl 0 rfl) ?_
    refine lv_iload_n hx hb dX6_after_25 rfl (lv_at hl 1 rfl) ?_
    refine lv_iload_n hx hb dX6_after_26 rfl (lv_at hl 2 rfl) ?_
    obtain ⟨r_7, t_6, hc_5, hrun⟩ := mo2_s rfl hrun
    refine cWV00 (As := [.int p2, .int p3]) (ci := 0) ⟨hx, hb, hml, hown, hts⟩ hOK hz hS hA hP hD (mtX6_figures l D k a Z hOK _ _ _ _ _ hc_5) (kX6_figures hts q2034 rfl rfl ⟨Nat.le_of_ble_eq_true rfl, Nat.le_of_ble_eq_true rfl⟩) 0 rfl rfl rfl hl.1 rfl (lv_room (Nat.le_of_ble_eq_true rfl)) ⟨Nat.le_of_ble_eq_true rfl, Nat.le_of_ble_eq_true rfl⟩ dX6_after_27 (fun r_ w_ H locs hq hP hD hS => ?_)
    obtain ⟨rfl, rfl⟩ := hq
    cases hrun
    exact retW_i hx hb hr hlocks hP hD hS ⟨rfl, rfl⟩ dX6_after_30
  refine lv_icmp_ne (tgt := 24) hx hb dX6_after_5 (by decide) (fun c_1 => ?_) (fun c_1 => ?_)
  · have hrun := mif_n c_1 hrun
    exact hj_2 t _ _ hP hD hS ls (lv_sub hl [0, 2, 3] rfl) hrun
  have hrun := mif_p c_1 hrun
  refine lv_aload_n hx hb dX6_after_8 rfl (lv_at hl 0 rfl) ?_
  refine lv_aload_n hx hb dX6_after_9 rfl (lv_at hl 1 rfl) ?_
  obtain ⟨r_10, t_9, hc_8, hrun⟩ := mo2_s rfl hrun
  refine cWV00 (As := [.ref (adK p1)]) (ci := 0) ⟨hx, hb, hml, hown, hts⟩ hOK hz hS hA hP hD (mtX6_has l D k a Z hOK hStr _ _ _ _ hc_8) (kX6_has hts q2017 rfl rfl ⟨Nat.le_of_ble_eq_true rfl, Nat.le_of_ble_eq_true rfl⟩) 0 rfl rfl rfl hl.1 rfl (lv_room (Nat.le_of_ble_eq_true rfl)) ⟨Nat.le_of_ble_eq_true rfl, Nat.le_of_ble_eq_true rfl⟩ dX6_after_10 (fun r_ w_ H locs hq hP hD hS => ?_)
  obtain ⟨rfl, rfl⟩ := hq
  refine lv_if_ne (tgt := 24) hx hb dX6_after_13 (by decide) (fun c_11 => ?_) (fun c_11 => ?_)
  · have hrun := mif_p (bz_nz c_11) hrun
    exact hj_2 t_9 _ _ hP hD hS ls (lv_sub hl [0, 2, 3] rfl) hrun
  have hrun := mif_n (bz_z c_11) hrun
  refine lv_aload_n hx hb dX6_after_16 rfl (lv_at hl 0 rfl) ?_
  refine lv_aload_n hx hb dX6_after_17 rfl (lv_at hl 0 rfl) ?_
  refine va_get (ci := 0) (v := .int (tw_at_ t_9)) (C := RX6) (T := TX6) (N := 22) hx hb hts in_X6 hown hK hP 0 rfl rfl 11 (by decide) (hts _ q1913) (fun _ h9 => h9) rfl dX6_after_18 ?_
  obtain ⟨t_13, hc_12, hrun⟩ := mob_s rfl hrun
  refine cWV00 (As := [.int (tw_at_ t_9)]) (ci := 0) ⟨hx, hb, hml, hown, hts⟩ hOK hz hS hA hP hD (mtX6_wrong l D k a Z hOK _ _ _ hc_12) (kX6_wrong hts q2008 rfl rfl ⟨Nat.le_of_ble_eq_true rfl, Nat.le_of_ble_eq_true rfl⟩) 0 rfl rfl rfl hl.1 rfl (lv_room (Nat.le_of_ble_eq_true rfl)) ⟨Nat.le_of_ble_eq_true rfl, Nat.le_of_ble_eq_true rfl⟩ dX6_after_21 (fun r_ w_ H locs hq hP hD hS => ?_)
  obtain ⟨rfl, rfl⟩ := hq
  exact hj_2 t_13 _ _ hP hD hS ls (lv_sub hl [0, 2, 3] rfl) hrun
def rX6_holeLine : Room := { frames := 4, cells := 0, slots := 0, locals := 85 }
noncomputable def fX6_holeLine (t : Tw) : Option (Tw) :=
  mo2 (fX6_figures t (0 : Int32) (7 : Int32)) fun r_3 t_2 =>
  mo2 (fX6_place t_2) fun r_6 t_5 =>
  mo2 (fX6_figures t_5 (0 : Int32) (7 : Int32)) fun r_9 t_8 =>
  mjn (fun (t_12 : Tw) =>
  if (tw_fault t_12) = (-1 : Int32) then
    mck ((16 : Int32) + r_3) 704 <|
    mck ((16 : Int32) + r_3) 704 <|
    mlt (tw_s_m t_12 (upd (tw_m t_12) (Int32.toNatClampNeg ((16 : Int32) + r_3)) (((tw_m t_12) (Int32.toNatClampNeg ((16 : Int32) + r_3))) ||| ((1 : Int32) <<< (r_9 &&& (31 : Int32)))))) fun t_17 =>
    some t_17
  else
    some t_12) fun K_13 =>
  if (tw_fault t_8) = (-1 : Int32) then
    if r_9 = r_3 then
      mob (fX6_wrong t_8 r_6) fun t_20 =>
      K_13 t_20
    else
      K_13 t_8
  else
    K_13 t_8
theorem kX6_holeLine {R : Room} {s : State} {args : Array Value} {own : String} {idx mc ms : Nat} {rm : Room} (hts : ∀ w ∈ lw_all, w.before args s = true) (hl : Cond.methodLink own idx yX6_holeLine ∈ lw_all) (hrc : rm.cells = mc) (hrs : rm.slots = ms) (hR : rm.frames + 1 ≤ R.frames ∧ 8 + (4 + 11) + rm.locals ≤ R.locals) : CallW R s args own RX6 idx yX6_holeLine cX6_holeLine 4 none (ws_ yX6_holeLine cX6_holeLine 4 none) rm mc ms 0 :=
  cwV 0 hts (lw_V hl q2103 qs70 q115 q2104) rfl hrc hrs (by decide +kernel) hR
set_option maxHeartbeats 4000000 in
set_option maxRecDepth 100000 in
theorem mtX6_holeLine (l : Launch) (D : va_G) (k : Nat → ClassId) (a : Nat → Nat) (Z : zZ) (hOK : zOK D zCl (zTys k) Z) (t : Tw) (tt : Tw) (hrun : fX6_holeLine t = some tt) :
    CtW l yX6_holeLine cX6_holeLine 4 none rX6_holeLine Z D zCl (cT k a t) [.ref (a 0)] (fun r' w' => r' = none ∧ w' = cT k a tt) 0 0 := by
  refine CtW.of (by decide) (Nat.le_of_ble_eq_true rfl) ?_
  intro p e s m args below meth c A hE hA hP hD hS hz ls hl
  obtain ⟨hx, hb, hr, hml, hown, hts, hlocks, hname⟩ := hE
  have hown : s.vm.findClass RX6 = some m.cls := hown
  have hK := hOK.1 _ _ _ hz
  have hl : lv_has ls 4 [(0, .ref (a 0))] := hl
  unfold fX6_holeLine at hrun
  refine lv_aload_n hx hb dX6_holeLine_0 rfl (lv_at hl 0 rfl) ?_
  refine lv_iconst (v := (0 : Int32)) hx hb dX6_holeLine_1 (by decide) ?_
  refine lv_bipush (v := (7 : Int32)) hx hb dX6_holeLine_2 (by decide) ?_
  obtain ⟨r_3, t_2, hc_1, hrun⟩ := mo2_s rfl hrun
  refine cWV00 (As := [.int (0 : Int32), .int (7 : Int32)]) (ci := 0) ⟨hx, hb, hml, hown, hts⟩ hOK hz hS hA hP hD (mtX6_figures l D k a Z hOK _ _ _ _ _ hc_1) (kX6_figures hts q2034 rfl rfl ⟨Nat.le_of_ble_eq_true rfl, Nat.le_of_ble_eq_true rfl⟩) 0 rfl rfl rfl hl.1 rfl (lv_room (Nat.le_of_ble_eq_true rfl)) ⟨Nat.le_of_ble_eq_true rfl, Nat.le_of_ble_eq_true rfl⟩ dX6_holeLine_4 (fun r_ w_ H locs hq hP hD hS => ?_)
  obtain ⟨rfl, rfl⟩ := hq
  refine lv_istore_n (lv' := [(1, .int r_3), (0, .ref (a 0))]) hx hb dX6_holeLine_7 rfl hl (by decide) rfl (fun ls hl => ?_)
  refine lv_aload_n hx hb dX6_holeLine_8 rfl (lv_at hl 1 rfl) ?_
  obtain ⟨r_6, t_5, hc_4, hrun⟩ := mo2_s rfl hrun
  refine cWV00 (As := []) (ci := 0) ⟨hx, hb, hml, hown, hts⟩ hOK hz hS hA hP hD (mtX6_place l D k a Z hOK _ _ _ hc_4) (kX6_place hts q2038 rfl rfl ⟨Nat.le_of_ble_eq_true rfl, Nat.le_of_ble_eq_true rfl⟩) 0 rfl rfl rfl hl.1 rfl (lv_room (Nat.le_of_ble_eq_true rfl)) ⟨Nat.le_of_ble_eq_true rfl, Nat.le_of_ble_eq_true rfl⟩ dX6_holeLine_9 (fun r_ w_ H locs hq hP hD hS => ?_)
  obtain ⟨rfl, rfl⟩ := hq
  refine lv_istore_n (lv' := [(2, .int r_6), (1, .int r_3), (0, .ref (a 0))]) hx hb dX6_holeLine_12 rfl hl (by decide) rfl (fun ls hl => ?_)
  refine lv_aload_n hx hb dX6_holeLine_13 rfl (lv_at hl 2 rfl) ?_
  refine lv_iconst (v := (0 : Int32)) hx hb dX6_holeLine_14 (by decide) ?_
  refine lv_bipush (v := (7 : Int32)) hx hb dX6_holeLine_15 (by decide) ?_
  obtain ⟨r_9, t_8, hc_7, hrun⟩ := mo2_s rfl hrun
  refine cWV00 (As := [.int (0 : Int32), .int (7 : Int32)]) (ci := 0) ⟨hx, hb, hml, hown, hts⟩ hOK hz hS hA hP hD (mtX6_figures l D k a Z hOK _ _ _ _ _ hc_7) (kX6_figures hts q2034 rfl rfl ⟨Nat.le_of_ble_eq_true rfl, Nat.le_of_ble_eq_true rfl⟩) 0 rfl rfl rfl hl.1 rfl (lv_room (Nat.le_of_ble_eq_true rfl)) ⟨Nat.le_of_ble_eq_true rfl, Nat.le_of_ble_eq_true rfl⟩ dX6_holeLine_17 (fun r_ w_ H locs hq hP hD hS => ?_)
  obtain ⟨rfl, rfl⟩ := hq
  refine lv_istore_n (lv' := [(3, .int r_9), (2, .int r_6), (1, .int r_3), (0, .ref (a 0))]) hx hb dX6_holeLine_20 rfl hl (by decide) rfl (fun ls hl => ?_)
  refine lv_aload_n hx hb dX6_holeLine_21 rfl (lv_at hl 3 rfl) ?_
  refine va_get (ci := 0) (v := .int (tw_fault t_8)) (C := RX6) (T := TX6) (N := 22) hx hb hts in_X6 hown hK hP 0 rfl rfl 12 (by decide) (hts _ q1914) (fun _ h9 => h9) rfl dX6_holeLine_22 ?_
  refine lv_iconst (v := (-1 : Int32)) hx hb dX6_holeLine_25 (by decide) ?_
  obtain ⟨K_13, hK_13, hrun⟩ := mjn_s hrun
  have hj_11 : ∀ (t_12 : Tw), ∀ (H : Heap) (locs : List Loc), va_P D zCl (cT k a t_12) H → va_D A (cT k a t_12) → va_S A s.heap H locs → ∀ ls : Array Slot, lv_has ls 4 [(0, .ref (a 0)), (1, .int r_3), (3, .int r_9)] → K_13 t_12 = some tt → W p l e rX6_holeLine s m args below meth c H locs 0 0 (MQ below (QWr (fun r' w' => r' = none ∧ w' = cT k a tt) D zCl A) args s 0 0 A) (F0 m 39 ls []) := by
    intro t_12 H locs hP hD hS ls hl hrun
    rw [hK_13] at hrun
    refine lv_aload_n hx hb dX6_holeLine_39 rfl (lv_at hl 0 rfl) ?_
    refine va_get (ci := 0) (v := .int (tw_fault t_12)) (C := RX6) (T := TX6) (N := 22) hx hb hts in_X6 hown hK hP 0 rfl rfl 12 (by decide) (hts _ q1914) (fun _ h9 => h9) rfl dX6_holeLine_40 ?_
    refine lv_iconst (v := (-1 : Int32)) hx hb dX6_holeLine_43 (by decide) ?_
    refine lv_icmp_ne (tgt := 62) hx hb dX6_holeLine_44 (by decide) (fun c_14 => ?_) (fun c_14 => ?_)
    · have hrun := mif_n c_14 hrun
      cases hrun
      exact retW_v hx hb hr hlocks hP hD hS ⟨rfl, rfl⟩ dX6_holeLine_62
    have hrun := mif_p c_14 hrun
    refine lv_aload_n hx hb dX6_holeLine_47 rfl (lv_at hl 0 rfl) ?_
    refine va_get (ci := 0) (v := .ref (a 1)) (C := RX6) (T := TX6) (N := 22) hx hb hts in_X6 hown hK hP 0 rfl rfl 1 (by decide) (hts _ q1903) (fun _ h9 => h9) rfl dX6_holeLine_48 ?_
    refine lv_bipush (v := (16 : Int32)) hx hb dX6_holeLine_51 (by decide) ?_
    refine lv_iload_n hx hb dX6_holeLine_53 rfl (lv_at hl 1 rfl) ?_
    refine lv_iadd hx hb dX6_holeLine_54 ?_
    refine lv_dup2_11 hx hb dX6_holeLine_55 rfl rfl ?_
    obtain ⟨hb_15, hrun⟩ := mck_s rfl hrun
    refine va_iald hx hb hK hP 1 0 rfl rfl hb_15 dX6_holeLine_56 ?_
    refine lv_iconst (v := (1 : Int32)) hx hb dX6_holeLine_57 (by decide) ?_
    refine lv_iload_n hx hb dX6_holeLine_58 rfl (lv_at hl 2 rfl) ?_
    refine lv_ishl hx hb dX6_holeLine_59 ?_
    refine lv_ior hx hb dX6_holeLine_60 ?_
    obtain ⟨hb_16, hrun⟩ := mck_s rfl hrun
    refine va_iast hx hb hK hP hD hS 1 0 rfl rfl hb_16 dX6_holeLine_61 (fun H locs hP hD hS => ?_)
    have hP : va_P D zCl (cT k a (tw_s_m t_12 (upd (tw_m t_12) (Int32.toNatClampNeg ((16 : Int32) + r_3)) (((tw_m t_12) (Int32.toNatClampNeg ((16 : Int32) + r_3))) ||| ((1 : Int32) <<< (r_9 &&& (31 : Int32))))))) H := hP
    have hD : va_D A (cT k a (tw_s_m t_12 (upd (tw_m t_12) (Int32.toNatClampNeg ((16 : Int32) + r_3)) (((tw_m t_12) (Int32.toNatClampNeg ((16 : Int32) + r_3))) ||| ((1 : Int32) <<< (r_9 &&& (31 : Int32))))))) := hD
    obtain ⟨t_17, et_17⟩ : ∃ z : Tw, z = (tw_s_m t_12 (upd (tw_m t_12) (Int32.toNatClampNeg ((16 : Int32) + r_3)) (((tw_m t_12) (Int32.toNatClampNeg ((16 : Int32) + r_3))) ||| ((1 : Int32) <<< (r_9 &&& (31 : Int32)))))) := ⟨_, rfl⟩
    rw [← et_17] at hP hD
    have hrun := mlt_s hrun t_17 et_17
    cases hrun
    exact retW_v hx hb hr hlocks hP hD hS ⟨rfl, rfl⟩ dX6_holeLine_62
  refine lv_icmp_ne (tgt := 39) hx hb dX6_holeLine_26 (by decide) (fun c_10 => ?_) (fun c_10 => ?_)
  · have hrun := mif_n c_10 hrun
    exact hj_11 t_8 _ _ hP hD hS ls (lv_sub hl [3, 2, 0] rfl) hrun
  have hrun := mif_p c_10 hrun
  refine lv_iload_n hx hb dX6_holeLine_29 rfl (lv_at hl 0 rfl) ?_
  refine lv_iload_n hx hb dX6_holeLine_30 rfl (lv_at hl 2 rfl) ?_
  refine lv_icmp_ne (tgt := 39) hx hb dX6_holeLine_31 (by decide) (fun c_18 => ?_) (fun c_18 => ?_)
  · have hrun := mif_n c_18 hrun
    exact hj_11 t_8 _ _ hP hD hS ls (lv_sub hl [3, 2, 0] rfl) hrun
  have hrun := mif_p c_18 hrun
  refine lv_aload_n hx hb dX6_holeLine_34 rfl (lv_at hl 3 rfl) ?_
  refine lv_iload_n hx hb dX6_holeLine_35 rfl (lv_at hl 1 rfl) ?_
  obtain ⟨t_20, hc_19, hrun⟩ := mob_s rfl hrun
  refine cWV00 (As := [.int r_6]) (ci := 0) ⟨hx, hb, hml, hown, hts⟩ hOK hz hS hA hP hD (mtX6_wrong l D k a Z hOK _ _ _ hc_19) (kX6_wrong hts q2008 rfl rfl ⟨Nat.le_of_ble_eq_true rfl, Nat.le_of_ble_eq_true rfl⟩) 0 rfl rfl rfl hl.1 rfl (lv_room (Nat.le_of_ble_eq_true rfl)) ⟨Nat.le_of_ble_eq_true rfl, Nat.le_of_ble_eq_true rfl⟩ dX6_holeLine_36 (fun r_ w_ H locs hq hP hD hS => ?_)
  obtain ⟨rfl, rfl⟩ := hq
  exact hj_11 t_20 _ _ hP hD hS ls (lv_sub hl [3, 2, 0] rfl) hrun
def rX6_tells : Room := { frames := 4, cells := 0, slots := 0, locals := 85 }
noncomputable def fX6_tells (t : Tw) (p1 : Int32) (p2 : Int32) : Option (Tw) :=
  mo2 (fX6_figures t (0 : Int32) p2) fun r_3 t_2 =>
  if (tw_fault t_2) = (-1 : Int32) then
    mck p1 704 <|
    mlt (tw_s_m t_2 (upd (tw_m t_2) (Int32.toNatClampNeg p1) r_3)) fun t_6 =>
    some t_6
  else
    some t_2
theorem kX6_tells {R : Room} {s : State} {args : Array Value} {own : String} {idx mc ms : Nat} {rm : Room} (hts : ∀ w ∈ lw_all, w.before args s = true) (hl : Cond.methodLink own idx yX6_tells ∈ lw_all) (hrc : rm.cells = mc) (hrs : rm.slots = ms) (hR : rm.frames + 1 ≤ R.frames ∧ 8 + (4 + 11) + rm.locals ≤ R.locals) : CallW R s args own RX6 idx yX6_tells cX6_tells 4 none (ws_ yX6_tells cX6_tells 4 none) rm mc ms 2 :=
  cwV 2 hts (lw_V hl q2108 qs71 q115 q2109) rfl hrc hrs (by decide +kernel) hR
set_option maxHeartbeats 4000000 in
set_option maxRecDepth 100000 in
theorem mtX6_tells (l : Launch) (D : va_G) (k : Nat → ClassId) (a : Nat → Nat) (Z : zZ) (hOK : zOK D zCl (zTys k) Z) (t : Tw) (p1 : Int32) (p2 : Int32) (tt : Tw) (hrun : fX6_tells t p1 p2 = some tt) :
    CtW l yX6_tells cX6_tells 4 none rX6_tells Z D zCl (cT k a t) [.ref (a 0), .int p1, .int p2] (fun r' w' => r' = none ∧ w' = cT k a tt) 0 0 := by
  refine CtW.of (by decide) (Nat.le_of_ble_eq_true rfl) ?_
  intro p e s m args below meth c A hE hA hP hD hS hz ls hl
  obtain ⟨hx, hb, hr, hml, hown, hts, hlocks, hname⟩ := hE
  have hown : s.vm.findClass RX6 = some m.cls := hown
  have hK := hOK.1 _ _ _ hz
  have hl : lv_has ls 4 [(0, .ref (a 0)), (1, .int p1), (2, .int p2)] := hl
  unfold fX6_tells at hrun
  refine lv_aload_n hx hb dX6_tells_0 rfl (lv_at hl 0 rfl) ?_
  refine lv_iconst (v := (0 : Int32)) hx hb dX6_tells_1 (by decide) ?_
  refine lv_iload_n hx hb dX6_tells_2 rfl (lv_at hl 2 rfl) ?_
  obtain ⟨r_3, t_2, hc_1, hrun⟩ := mo2_s rfl hrun
  refine cWV00 (As := [.int (0 : Int32), .int p2]) (ci := 0) ⟨hx, hb, hml, hown, hts⟩ hOK hz hS hA hP hD (mtX6_figures l D k a Z hOK _ _ _ _ _ hc_1) (kX6_figures hts q2034 rfl rfl ⟨Nat.le_of_ble_eq_true rfl, Nat.le_of_ble_eq_true rfl⟩) 0 rfl rfl rfl hl.1 rfl (lv_room (Nat.le_of_ble_eq_true rfl)) ⟨Nat.le_of_ble_eq_true rfl, Nat.le_of_ble_eq_true rfl⟩ dX6_tells_3 (fun r_ w_ H locs hq hP hD hS => ?_)
  obtain ⟨rfl, rfl⟩ := hq
  refine lv_istore_n (lv' := [(3, .int r_3), (0, .ref (a 0)), (1, .int p1), (2, .int p2)]) hx hb dX6_tells_6 rfl hl (by decide) rfl (fun ls hl => ?_)
  refine lv_aload_n hx hb dX6_tells_7 rfl (lv_at hl 1 rfl) ?_
  refine va_get (ci := 0) (v := .int (tw_fault t_2)) (C := RX6) (T := TX6) (N := 22) hx hb hts in_X6 hown hK hP 0 rfl rfl 12 (by decide) (hts _ q1914) (fun _ h9 => h9) rfl dX6_tells_8 ?_
  refine lv_iconst (v := (-1 : Int32)) hx hb dX6_tells_11 (by decide) ?_
  refine lv_icmp_ne (tgt := 22) hx hb dX6_tells_12 (by decide) (fun c_4 => ?_) (fun c_4 => ?_)
  · have hrun := mif_n c_4 hrun
    cases hrun
    exact retW_v hx hb hr hlocks hP hD hS ⟨rfl, rfl⟩ dX6_tells_22
  have hrun := mif_p c_4 hrun
  refine lv_aload_n hx hb dX6_tells_15 rfl (lv_at hl 1 rfl) ?_
  refine va_get (ci := 0) (v := .ref (a 1)) (C := RX6) (T := TX6) (N := 22) hx hb hts in_X6 hown hK hP 0 rfl rfl 1 (by decide) (hts _ q1903) (fun _ h9 => h9) rfl dX6_tells_16 ?_
  refine lv_iload_n hx hb dX6_tells_19 rfl (lv_at hl 2 rfl) ?_
  refine lv_iload_n hx hb dX6_tells_20 rfl (lv_at hl 0 rfl) ?_
  obtain ⟨hb_5, hrun⟩ := mck_s rfl hrun
  refine va_iast hx hb hK hP hD hS 1 0 rfl rfl hb_5 dX6_tells_21 (fun H locs hP hD hS => ?_)
  have hP : va_P D zCl (cT k a (tw_s_m t_2 (upd (tw_m t_2) (Int32.toNatClampNeg p1) r_3))) H := hP
  have hD : va_D A (cT k a (tw_s_m t_2 (upd (tw_m t_2) (Int32.toNatClampNeg p1) r_3))) := hD
  obtain ⟨t_6, et_6⟩ : ∃ z : Tw, z = (tw_s_m t_2 (upd (tw_m t_2) (Int32.toNatClampNeg p1) r_3)) := ⟨_, rfl⟩
  rw [← et_6] at hP hD
  have hrun := mlt_s hrun t_6 et_6
  cases hrun
  exact retW_v hx hb hr hlocks hP hD hS ⟨rfl, rfl⟩ dX6_tells_22
def rX6_seesFrom : Room := { frames := 2, cells := 0, slots := 0, locals := 43 }
noncomputable def fX6_seesFrom (t : Tw) (p1 : Int32) (p2 : Bool) (p3 : Int32) : Option (Bool) :=
  mjn (fun (y_3 : Bool) =>
  if p1 = p3 then
    some true
  else
    mob (fX6_isHole t p1 p3) fun r_7 =>
    if r_7 = true then
      some true
    else
      if p2 = true then
        if y_3 = true then
          some true
        else
          some false
      else
        some false) fun K_4 =>
  if (mrm (p1 + (1 : Int32)) (8 : Int32)) = p3 then
    K_4 true
  else
    if (mrm (p3 + (1 : Int32)) (8 : Int32)) = p1 then
      K_4 true
    else
      K_4 false
theorem kX6_seesFrom {R : Room} {s : State} {args : Array Value} {own : String} {idx mc ms : Nat} {rm : Room} (hts : ∀ w ∈ lw_all, w.before args s = true) (hl : Cond.methodLink own idx yX6_seesFrom ∈ lw_all) (hrc : rm.cells = mc) (hrs : rm.slots = ms) (hR : rm.frames + 1 ≤ R.frames ∧ 8 + (5 + 11) + rm.locals ≤ R.locals) : CallW R s args own RX6 idx yX6_seesFrom cX6_seesFrom 5 (some .boolean) (ws_ yX6_seesFrom cX6_seesFrom 5 (some .boolean)) rm mc ms 3 :=
  cwV 3 hts (lw_V hl q2169 qs81 q115 q2170) rfl hrc hrs (by decide +kernel) hR
set_option maxHeartbeats 4000000 in
set_option maxRecDepth 100000 in
theorem mtX6_seesFrom (l : Launch) (D : va_G) (k : Nat → ClassId) (a : Nat → Nat) (Z : zZ) (hOK : zOK D zCl (zTys k) Z) (t : Tw) (p1 : Int32) (p2 : Bool) (p3 : Int32) (r : Bool) (hrun : fX6_seesFrom t p1 p2 p3 = some r) :
    CtR l yX6_seesFrom cX6_seesFrom 5 (some .boolean) rX6_seesFrom Z D zCl (cT k a t) [.ref (a 0), .int p1, .int (bz p2), .int p3] (some (.int (bz r))) := by
  refine CtR.of (by decide) (Nat.le_of_ble_eq_true rfl) ?_
  intro p e s m args below meth c hE hP hz ls hl
  obtain ⟨hx, hb, hr, hml, hown, hts, hlocks, hname⟩ := hE
  have hown : s.vm.findClass RX6 = some m.cls := hown
  have hK := hOK.1 _ _ _ hz
  have hl : lv_has ls 5 [(0, .ref (a 0)), (1, .int p1), (2, .int (bz p2)), (3, .int p3)] := hl
  unfold fX6_seesFrom at hrun
  refine lv_iload_n hx hb dX6_seesFrom_0 rfl (lv_at hl 1 rfl) ?_
  refine lv_iconst (v := (1 : Int32)) hx hb dX6_seesFrom_1 (by decide) ?_
  refine lv_iadd hx hb dX6_seesFrom_2 ?_
  refine lv_bipush (v := (8 : Int32)) hx hb dX6_seesFrom_3 (by decide) ?_
  refine lv_irem hx hb dX6_seesFrom_5 (by decide) ?_
  refine lv_iload_n hx hb dX6_seesFrom_6 rfl (lv_at hl 3 rfl) ?_
  obtain ⟨K_4, hK_4, hrun⟩ := mjn_s hrun
  have hj_2 : ∀ (y_3 : Bool), ∀ ls : Array Slot, lv_has ls 5 [(0, .ref (a 0)), (1, .int p1), (2, .int (bz p2)), (3, .int p3)] → K_4 y_3 = some r → W p l e rX6_seesFrom s m args below meth c s.heap [] 0 0 (MQ below (QRr (some (.int (bz r)))) args s 0 0 (fun _ => False)) (F0 m 25 ls [.int (bz y_3)]) := by
    intro y_3 ls hl hrun
    rw [hK_4] at hrun
    refine lv_istore (lv' := [(4, .int (bz y_3)), (0, .ref (a 0)), (1, .int p1), (2, .int (bz p2)), (3, .int p3)]) hx hb dX6_seesFrom_25 hl (by decide) rfl (fun ls hl => ?_)
    refine lv_iload_n hx hb dX6_seesFrom_27 rfl (lv_at hl 2 rfl) ?_
    refine lv_iload_n hx hb dX6_seesFrom_28 rfl (lv_at hl 4 rfl) ?_
    refine lv_icmp_eq (tgt := 50) hx hb dX6_seesFrom_29 (by decide) (fun c_5 => ?_) (fun c_5 => ?_)
    · have hrun := mif_p c_5 hrun
      refine lv_iconst (v := (1 : Int32)) hx hb dX6_seesFrom_50 (by decide) ?_
      refine lv_goto (tgt := 55) hx hb dX6_seesFrom_51 (by decide) ?_
      cases hrun
      exact retR_z (v := true) hx hb hr hlocks rfl dX6_seesFrom_55
    have hrun := mif_n c_5 hrun
    refine lv_aload_n hx hb dX6_seesFrom_32 rfl (lv_at hl 1 rfl) ?_
    refine lv_iload_n hx hb dX6_seesFrom_33 rfl (lv_at hl 2 rfl) ?_
    refine lv_iload_n hx hb dX6_seesFrom_34 rfl (lv_at hl 4 rfl) ?_
    obtain ⟨r_7, hc_6, hrun⟩ := mob_s rfl hrun
    refine cRV (As := [.int p1, .int p3]) (ci := 0) ⟨hx, hb, hml, hown, hts⟩ hOK hz va_S.rf hP (mtX6_isHole l D k a Z hOK _ _ _ _ hc_6) (kX6_isHole hts q2171 rfl rfl ⟨Nat.le_of_ble_eq_true rfl, Nat.le_of_ble_eq_true rfl⟩) 0 rfl rfl rfl hl.1 rfl (lv_room (Nat.le_of_ble_eq_true rfl)) ⟨Nat.le_of_ble_eq_true rfl, Nat.le_of_ble_eq_true rfl⟩ dX6_seesFrom_35 ?_
    refine lv_if_ne (tgt := 50) hx hb dX6_seesFrom_38 (by decide) (fun c_8 => ?_) (fun c_8 => ?_)
    · have hrun := mif_p (bz_nz c_8) hrun
      refine lv_iconst (v := (1 : Int32)) hx hb dX6_seesFrom_50 (by decide) ?_
      refine lv_goto (tgt := 55) hx hb dX6_seesFrom_51 (by decide) ?_
      cases hrun
      exact retR_z (v := true) hx hb hr hlocks rfl dX6_seesFrom_55
    have hrun := mif_n (bz_z c_8) hrun
    refine lv_iload_n hx hb dX6_seesFrom_41 rfl (lv_at hl 3 rfl) ?_
    refine lv_if_eq (tgt := 54) hx hb dX6_seesFrom_42 (by decide) (fun c_9 => ?_) (fun c_9 => ?_)
    · have hrun := mif_n (bz_z c_9) hrun
      refine lv_iconst (v := (0 : Int32)) hx hb dX6_seesFrom_54 (by decide) ?_
      cases hrun
      exact retR_z (v := false) hx hb hr hlocks rfl dX6_seesFrom_55
    have hrun := mif_p (bz_nz c_9) hrun
    refine lv_iload hx hb dX6_seesFrom_45 (lv_at hl 0 rfl) ?_
    refine lv_if_eq (tgt := 54) hx hb dX6_seesFrom_47 (by decide) (fun c_10 => ?_) (fun c_10 => ?_)
    · have hrun := mif_n (bz_z c_10) hrun
      refine lv_iconst (v := (0 : Int32)) hx hb dX6_seesFrom_54 (by decide) ?_
      cases hrun
      exact retR_z (v := false) hx hb hr hlocks rfl dX6_seesFrom_55
    have hrun := mif_p (bz_nz c_10) hrun
    refine lv_iconst (v := (1 : Int32)) hx hb dX6_seesFrom_50 (by decide) ?_
    refine lv_goto (tgt := 55) hx hb dX6_seesFrom_51 (by decide) ?_
    cases hrun
    exact retR_z (v := true) hx hb hr hlocks rfl dX6_seesFrom_55
  refine lv_icmp_eq (tgt := 20) hx hb dX6_seesFrom_7 (by decide) (fun c_1 => ?_) (fun c_1 => ?_)
  · have hrun := mif_p c_1 hrun
    refine lv_iconst (v := (1 : Int32)) hx hb dX6_seesFrom_20 (by decide) ?_
    refine lv_goto (tgt := 25) hx hb dX6_seesFrom_21 (by decide) ?_
    exact hj_2 true ls (lv_sub hl [0, 1, 2, 3] rfl) hrun
  have hrun := mif_n c_1 hrun
  refine lv_iload_n hx hb dX6_seesFrom_10 rfl (lv_at hl 3 rfl) ?_
  refine lv_iconst (v := (1 : Int32)) hx hb dX6_seesFrom_11 (by decide) ?_
  refine lv_iadd hx hb dX6_seesFrom_12 ?_
  refine lv_bipush (v := (8 : Int32)) hx hb dX6_seesFrom_13 (by decide) ?_
  refine lv_irem hx hb dX6_seesFrom_15 (by decide) ?_
  refine lv_iload_n hx hb dX6_seesFrom_16 rfl (lv_at hl 1 rfl) ?_
  refine lv_icmp_ne (tgt := 24) hx hb dX6_seesFrom_17 (by decide) (fun c_11 => ?_) (fun c_11 => ?_)
  · have hrun := mif_n c_11 hrun
    refine lv_iconst (v := (0 : Int32)) hx hb dX6_seesFrom_24 (by decide) ?_
    exact hj_2 false ls (lv_sub hl [0, 1, 2, 3] rfl) hrun
  have hrun := mif_p c_11 hrun
  refine lv_iconst (v := (1 : Int32)) hx hb dX6_seesFrom_20 (by decide) ?_
  refine lv_goto (tgt := 25) hx hb dX6_seesFrom_21 (by decide) ?_
  exact hj_2 true ls (lv_sub hl [0, 1, 2, 3] rfl) hrun
