/-! walks: X6_line, X6_round, X6_crowd, X6_agree, X6_need, X6_holes, X6_logged -/
def rX6_line : Room := { frames := 2, cells := 0, slots := 0, locals := 42 }
noncomputable def fX6_line_L63 (K_18 : Int32 → Option (Int32 × Tw)) (x3_10 : Int32) (t_7 : Tw) : Nat → Int32 → Int32 → Option (Int32 × Tw)
  | 0, _, _ => none
  | n + 1, x3_20, x6_21 =>
    if (8 : Int32) ≤ x6_21 then
      K_18 x3_20
    else
      mob (fX6_isOf x3_10 x6_21) fun r_24 =>
      if r_24 = true then
        mck ((16 : Int32) + x6_21) 704 <|
        mlt (x3_20 ||| ((tw_m t_7) (Int32.toNatClampNeg ((16 : Int32) + x6_21)))) fun x3_27 =>
        fX6_line_L63 K_18 x3_10 t_7 n x3_27 (x6_21 + (1 : Int32))
      else
        fX6_line_L63 K_18 x3_10 t_7 n x3_20 (x6_21 + (1 : Int32))
noncomputable def fX6_line_L39 (t_7 : Tw) (p2 : Int32) : Nat → Int32 → Int32 → Option (Int32 × Tw)
  | 0, _, _ => none
  | n + 1, x3_10, x4_11 =>
    if (8 : Int32) ≤ x4_11 then
      some ((-1 : Int32), t_7)
    else
      mob (fX6_isOf x3_10 p2) fun r_14 =>
      if r_14 = true then
        some (x4_11, t_7)
      else
        mjn (fun (x3_17 : Int32) =>
        fX6_line_L39 t_7 p2 n x3_17 (x4_11 + (1 : Int32))) fun K_18 =>
        fX6_line_L63 K_18 x3_10 t_7 mFU x3_10 (0 : Int32)
noncomputable def fX6_line (t : Tw) (p1 : Int32) (p2 : Int32) : Option (Int32 × Tw) :=
  mob (fX6_isRoom p1) fun r_2 =>
  mjn (fun (y_5 : Bool) =>
  mlt (tw_s_thrown t (bz y_5)) fun t_7 =>
  if (tw_thrown t_7) ≤ (0 : Int32) then
    fX6_line_L39 t_7 p2 mFU ((1 : Int32) <<< (p1 &&& (31 : Int32))) (0 : Int32)
  else
    some ((0 : Int32), t_7)) fun K_6 =>
  if r_2 = true then
    mob (fX6_isRoom p2) fun r_31 =>
    if r_31 = true then
      K_6 false
    else
      K_6 true
  else
    K_6 true
theorem kX6_line {R : Room} {s : State} {args : Array Value} {own : String} {idx mc ms : Nat} {rm : Room} (hts : ∀ w ∈ lw_all, w.before args s = true) (hl : Cond.methodLink own idx yX6_line ∈ lw_all) (hrc : rm.cells = mc) (hrs : rm.slots = ms) (hR : rm.frames + 1 ≤ R.frames ∧ 8 + (7 + 11) + rm.locals ≤ R.locals) : CallW R s args own RX6 idx yX6_line cX6_line 7 (some .int) (ws_ yX6_line cX6_line 7 (some .int)) rm mc ms 2 :=
  cwV 2 hts (lw_V hl q2404 q2405 q115 q2406) rfl hrc hrs (by decide +kernel) hR
set_option maxHeartbeats 4000000 in
set_option maxRecDepth 100000 in
theorem mtX6_line (l : Launch) (D : va_G) (k : Nat → ClassId) (a : Nat → Nat) (Z : zZ) (hOK : zOK D zCl (zTys k) Z) (t : Tw) (p1 : Int32) (p2 : Int32) (r : Int32) (tt : Tw) (hrun : fX6_line t p1 p2 = some (r, tt)) :
    CtW l yX6_line cX6_line 7 (some .int) rX6_line Z D zCl (cT k a t) [.ref (a 0), .int p1, .int p2] (fun r' w' => r' = (some (.int r)) ∧ w' = cT k a tt) 0 0 := by
  refine CtW.of (by decide) (Nat.le_of_ble_eq_true rfl) ?_
  intro p e s m args below meth c A hE hA hP hD hS hz ls hl
  obtain ⟨hx, hb, hr, hml, hown, hts, hlocks, hname⟩ := hE
  have hown : s.vm.findClass RX6 = some m.cls := hown
  have hK := hOK.1 _ _ _ hz
  have hl : lv_has ls 7 [(0, .ref (a 0)), (1, .int p1), (2, .int p2)] := hl
  unfold fX6_line at hrun
  refine lv_aload_n hx hb dX6_line_0 rfl (lv_at hl 0 rfl) ?_
  refine lv_iload_n hx hb dX6_line_1 rfl (lv_at hl 1 rfl) ?_
  obtain ⟨r_2, hc_1, hrun⟩ := mob_s rfl hrun
  refine cRS (ws := []) (As := [.int p1]) ⟨hx, hb, hml, hown, hts⟩ hOK hz hS zP0 (mtX6_isRoom l D Z hOK _ _ hc_1) (kX6_isRoom hts q2182 rfl rfl ⟨Nat.le_of_ble_eq_true rfl, Nat.le_of_ble_eq_true rfl⟩) rfl hl.1 rfl (lv_room (Nat.le_of_ble_eq_true rfl)) ⟨Nat.le_of_ble_eq_true rfl, Nat.le_of_ble_eq_true rfl⟩ dX6_line_2 ?_
  obtain ⟨K_6, hK_6, hrun⟩ := mjn_s hrun
  have hj_4 : ∀ (y_5 : Bool), ∀ (H : Heap) (locs : List Loc), va_P D zCl (cT k a t) H → va_D A (cT k a t) → va_S A s.heap H locs → ∀ ls : Array Slot, lv_has ls 7 [(0, .ref (a 0)), (1, .int p1), (2, .int p2)] → K_6 y_5 = some (r, tt) → W p l e rX6_line s m args below meth c H locs 0 0 (MQ below (QWr (fun r' w' => r' = (some (.int r)) ∧ w' = cT k a tt) D zCl A) args s 0 0 A) (F0 m 20 ls [.int (bz y_5), .ref (a 0)]) := by
    intro y_5 H locs hP hD hS ls hl hrun
    rw [hK_6] at hrun
    refine va_put (ci := 0) (v := .int (bz y_5)) (ty := tyX6 0) (C := RX6) (T := TX6) (N := 22) hx hb hts in_X6 tyX6 tyX6_ok nmX6 hown hK hP hD hS 0 rfl rfl 0 (by decide) (hts _ q1902) (fun _ h9 => h9) rfl (tyX6_ok 0 (by decide)) rfl rfl (Nat.le_of_ble_eq_true rfl) dX6_line_20 (fun H locs hP hD hS => ?_)
    have hP : va_P D zCl (cT k a (tw_s_thrown t (bz y_5))) H := hP
    have hD : va_D A (cT k a (tw_s_thrown t (bz y_5))) := hD
    obtain ⟨t_7, et_7⟩ : ∃ z : Tw, z = (tw_s_thrown t (bz y_5)) := ⟨_, rfl⟩
    rw [← et_7] at hP hD
    have hrun := mlt_s hrun t_7 et_7
    refine lv_aload_n hx hb dX6_line_23 rfl (lv_at hl 0 rfl) ?_
    refine va_get (ci := 0) (v := .int (tw_thrown t_7)) (C := RX6) (T := TX6) (N := 22) hx hb hts in_X6 hown hK hP 0 rfl rfl 0 (by decide) (hts _ q1902) (fun _ h9 => h9) rfl dX6_line_24 ?_
    refine lv_if_le (tgt := 32) hx hb dX6_line_27 (by decide) (fun c_8 => ?_) (fun c_8 => ?_)
    · have hrun := mif_p c_8 hrun
      refine lv_iconst (v := (1 : Int32)) hx hb dX6_line_32 (by decide) ?_
      refine lv_iload_n hx hb dX6_line_33 rfl (lv_at hl 1 rfl) ?_
      refine lv_ishl hx hb dX6_line_34 ?_
      refine lv_istore_n (lv' := [(3, .int ((1 : Int32) <<< (p1 &&& (31 : Int32)))), (0, .ref (a 0)), (1, .int p1), (2, .int p2)]) hx hb dX6_line_35 rfl hl (by decide) rfl (fun ls hl => ?_)
      refine lv_iconst (v := (0 : Int32)) hx hb dX6_line_36 (by decide) ?_
      refine lv_istore (lv' := [(4, .int (0 : Int32)), (3, .int ((1 : Int32) <<< (p1 &&& (31 : Int32)))), (0, .ref (a 0)), (1, .int p1), (2, .int p2)]) hx hb dX6_line_37 hl (by decide) rfl (fun ls hl => ?_)
      have hL_9 : ∀ n : Nat, ∀ (x3_10 : Int32) (x4_11 : Int32), ∀ (H : Heap) (locs : List Loc), va_P D zCl (cT k a t_7) H → va_D A (cT k a t_7) → va_S A s.heap H locs → ∀ ls : Array Slot, lv_has ls 7 [(0, .ref (a 0)), (2, .int p2), (3, .int x3_10), (4, .int x4_11)] → fX6_line_L39 t_7 p2 n x3_10 x4_11 = some (r, tt) → W p l e rX6_line s m args below meth c H locs 0 0 (MQ below (QWr (fun r' w' => r' = (some (.int r)) ∧ w' = cT k a tt) D zCl A) args s 0 0 A) (F0 m 39 ls []) := by
        intro n
        induction n with
        | zero =>
          intro x3_10 x4_11 H locs hP hD hS ls hl hrun
          exact nomatch hrun
        | succ n ih =>
          intro x3_10 x4_11 H locs hP hD hS ls hl hrun
          rw [fX6_line_L39.eq_2] at hrun
          refine lv_iload hx hb dX6_line_39 (lv_at hl 3 rfl) ?_
          refine lv_bipush (v := (8 : Int32)) hx hb dX6_line_41 (by decide) ?_
          refine lv_icmp_ge (tgt := 105) hx hb dX6_line_43 (by decide) (fun c_12 => ?_) (fun c_12 => ?_)
          · have hrun := mif_p c_12 hrun
            refine lv_iconst (v := (-1 : Int32)) hx hb dX6_line_105 (by decide) ?_
            cases hrun
            exact retW_i hx hb hr hlocks hP hD hS ⟨rfl, rfl⟩ dX6_line_106
          have hrun := mif_n c_12 hrun
          refine lv_iload_n hx hb dX6_line_46 rfl (lv_at hl 2 rfl) ?_
          refine lv_iload_n hx hb dX6_line_47 rfl (lv_at hl 1 rfl) ?_
          obtain ⟨r_14, hc_13, hrun⟩ := mob_s rfl hrun
          refine cRS (ws := []) (As := [.int x3_10, .int p2]) ⟨hx, hb, hml, hown, hts⟩ hOK hz hS zP0 (mtX6_isOf l D Z hOK _ _ _ hc_13) (kX6_isOf hts q2175 rfl rfl ⟨Nat.le_of_ble_eq_true rfl, Nat.le_of_ble_eq_true rfl⟩) rfl hl.1 rfl (lv_room (Nat.le_of_ble_eq_true rfl)) ⟨Nat.le_of_ble_eq_true rfl, Nat.le_of_ble_eq_true rfl⟩ dX6_line_48 ?_
          refine lv_if_eq (tgt := 57) hx hb dX6_line_51 (by decide) (fun c_15 => ?_) (fun c_15 => ?_)
          · have hrun := mif_n (bz_z c_15) hrun
            refine lv_iload_n hx hb dX6_line_57 rfl (lv_at hl 2 rfl) ?_
            refine lv_istore (lv' := [(5, .int x3_10), (0, .ref (a 0)), (2, .int p2), (3, .int x3_10), (4, .int x4_11)]) hx hb dX6_line_58 hl (by decide) rfl (fun ls hl => ?_)
            refine lv_iconst (v := (0 : Int32)) hx hb dX6_line_60 (by decide) ?_
            refine lv_istore (lv' := [(6, .int (0 : Int32)), (5, .int x3_10), (0, .ref (a 0)), (2, .int p2), (3, .int x3_10), (4, .int x4_11)]) hx hb dX6_line_61 hl (by decide) rfl (fun ls hl => ?_)
            obtain ⟨K_18, hK_18, hrun⟩ := mjn_s hrun
            have hj_16 : ∀ (x3_17 : Int32), ∀ (H : Heap) (locs : List Loc), va_P D zCl (cT k a t_7) H → va_D A (cT k a t_7) → va_S A s.heap H locs → ∀ ls : Array Slot, lv_has ls 7 [(0, .ref (a 0)), (2, .int p2), (3, .int x3_17), (4, .int x4_11)] → K_18 x3_17 = some (r, tt) → W p l e rX6_line s m args below meth c H locs 0 0 (MQ below (QWr (fun r' w' => r' = (some (.int r)) ∧ w' = cT k a tt) D zCl A) args s 0 0 A) (F0 m 99 ls []) := by
              intro x3_17 H locs hP hD hS ls hl hrun
              rw [hK_18] at hrun
              refine lv_iinc (v := (x4_11 + (1 : Int32))) (lv' := [(4, .int (x4_11 + (1 : Int32))), (0, .ref (a 0)), (2, .int p2), (3, .int x3_17)]) hx hb dX6_line_99 hl (k := 3) rfl rfl (by decide) rfl (fun ls hl => ?_)
              refine lv_goto (tgt := 39) hx hb dX6_line_102 (by decide) ?_
              exact ih x3_17 (x4_11 + (1 : Int32)) _ _ hP hD hS ls (lv_sub hl [1, 2, 3, 0] rfl) hrun
            have hL_19 : ∀ n : Nat, ∀ (x3_20 : Int32) (x6_21 : Int32), ∀ (H : Heap) (locs : List Loc), va_P D zCl (cT k a t_7) H → va_D A (cT k a t_7) → va_S A s.heap H locs → ∀ ls : Array Slot, lv_has ls 7 [(0, .ref (a 0)), (2, .int p2), (3, .int x3_20), (4, .int x4_11), (5, .int x3_10), (6, .int x6_21)] → fX6_line_L63 K_18 x3_10 t_7 n x3_20 x6_21 = some (r, tt) → W p l e rX6_line s m args below meth c H locs 0 0 (MQ below (QWr (fun r' w' => r' = (some (.int r)) ∧ w' = cT k a tt) D zCl A) args s 0 0 A) (F0 m 63 ls []) := by
              intro n
              induction n with
              | zero =>
                intro x3_20 x6_21 H locs hP hD hS ls hl hrun
                exact nomatch hrun
              | succ n ih =>
                intro x3_20 x6_21 H locs hP hD hS ls hl hrun
                rw [fX6_line_L63.eq_2] at hrun
                refine lv_iload hx hb dX6_line_63 (lv_at hl 5 rfl) ?_
                refine lv_bipush (v := (8 : Int32)) hx hb dX6_line_65 (by decide) ?_
                refine lv_icmp_ge (tgt := 99) hx hb dX6_line_67 (by decide) (fun c_22 => ?_) (fun c_22 => ?_)
                · have hrun := mif_p c_22 hrun
                  exact hj_16 x3_20 _ _ hP hD hS ls (lv_sub hl [0, 1, 2, 3] rfl) hrun
                have hrun := mif_n c_22 hrun
                refine lv_iload hx hb dX6_line_70 (lv_at hl 4 rfl) ?_
                refine lv_iload hx hb dX6_line_72 (lv_at hl 5 rfl) ?_
                obtain ⟨r_24, hc_23, hrun⟩ := mob_s rfl hrun
                refine cRS (ws := []) (As := [.int x3_10, .int x6_21]) ⟨hx, hb, hml, hown, hts⟩ hOK hz hS zP0 (mtX6_isOf l D Z hOK _ _ _ hc_23) (kX6_isOf hts q2175 rfl rfl ⟨Nat.le_of_ble_eq_true rfl, Nat.le_of_ble_eq_true rfl⟩) rfl hl.1 rfl (lv_room (Nat.le_of_ble_eq_true rfl)) ⟨Nat.le_of_ble_eq_true rfl, Nat.le_of_ble_eq_true rfl⟩ dX6_line_74 ?_
                refine lv_if_eq (tgt := 93) hx hb dX6_line_77 (by decide) (fun c_25 => ?_) (fun c_25 => ?_)
                · have hrun := mif_n (bz_z c_25) hrun
                  refine lv_iinc (v := (x6_21 + (1 : Int32))) (lv' := [(6, .int (x6_21 + (1 : Int32))), (0, .ref (a 0)), (2, .int p2), (3, .int x3_20), (4, .int x4_11), (5, .int x3_10)]) hx hb dX6_line_93 hl (k := 5) rfl rfl (by decide) rfl (fun ls hl => ?_)
                  refine lv_goto (tgt := 63) hx hb dX6_line_96 (by decide) ?_
                  exact ih x3_20 (x6_21 + (1 : Int32)) _ _ hP hD hS ls (lv_sub hl [1, 2, 3, 4, 5, 0] rfl) hrun
                have hrun := mif_p (bz_nz c_25) hrun
                refine lv_iload_n hx hb dX6_line_80 rfl (lv_at hl 2 rfl) ?_
                refine lv_aload_n hx hb dX6_line_81 rfl (lv_at hl 0 rfl) ?_
                refine va_get (ci := 0) (v := .ref (a 1)) (C := RX6) (T := TX6) (N := 22) hx hb hts in_X6 hown hK hP 0 rfl rfl 1 (by decide) (hts _ q1903) (fun _ h9 => h9) rfl dX6_line_82 ?_
                refine lv_bipush (v := (16 : Int32)) hx hb dX6_line_85 (by decide) ?_
                refine lv_iload hx hb dX6_line_87 (lv_at hl 5 rfl) ?_
                refine lv_iadd hx hb dX6_line_89 ?_
                obtain ⟨hb_26, hrun⟩ := mck_s rfl hrun
                refine va_iald hx hb hK hP 1 0 rfl rfl hb_26 dX6_line_90 ?_
                refine lv_ior hx hb dX6_line_91 ?_
                refine lv_topi (fun x3_27 ex3_27 => ?_)
                have hrun := mlt_s hrun x3_27 ex3_27
                refine lv_istore_n (lv' := [(3, .int x3_27), (0, .ref (a 0)), (2, .int p2), (4, .int x4_11), (5, .int x3_10), (6, .int x6_21)]) hx hb dX6_line_92 rfl hl (by decide) rfl (fun ls hl => ?_)
                refine lv_iinc (v := (x6_21 + (1 : Int32))) (lv' := [(6, .int (x6_21 + (1 : Int32))), (3, .int x3_27), (0, .ref (a 0)), (2, .int p2), (4, .int x4_11), (5, .int x3_10)]) hx hb dX6_line_93 hl (k := 5) rfl rfl (by decide) rfl (fun ls hl => ?_)
                refine lv_goto (tgt := 63) hx hb dX6_line_96 (by decide) ?_
                exact ih x3_27 (x6_21 + (1 : Int32)) _ _ hP hD hS ls (lv_sub hl [2, 3, 1, 4, 5, 0] rfl) hrun
            exact hL_19 mFU x3_10 (0 : Int32) _ _ hP hD hS ls (lv_sub hl [2, 3, 4, 5, 1, 0] rfl) hrun
          have hrun := mif_p (bz_nz c_15) hrun
          refine lv_iload hx hb dX6_line_54 (lv_at hl 3 rfl) ?_
          cases hrun
          exact retW_i hx hb hr hlocks hP hD hS ⟨rfl, rfl⟩ dX6_line_56
      exact hL_9 mFU ((1 : Int32) <<< (p1 &&& (31 : Int32))) (0 : Int32) _ _ hP hD hS ls (lv_sub hl [2, 4, 1, 0] rfl) hrun
    have hrun := mif_n c_8 hrun
    refine lv_iconst (v := (0 : Int32)) hx hb dX6_line_30 (by decide) ?_
    cases hrun
    exact retW_i hx hb hr hlocks hP hD hS ⟨rfl, rfl⟩ dX6_line_31
  refine lv_if_eq (tgt := 15) hx hb dX6_line_5 (by decide) (fun c_3 => ?_) (fun c_3 => ?_)
  · have hrun := mif_n (bz_z c_3) hrun
    refine lv_iconst (v := (1 : Int32)) hx hb dX6_line_15 (by decide) ?_
    refine lv_goto (tgt := 20) hx hb dX6_line_16 (by decide) ?_
    exact hj_4 true _ _ hP hD hS ls (lv_sub hl [0, 1, 2] rfl) hrun
  have hrun := mif_p (bz_nz c_3) hrun
  refine lv_iload_n hx hb dX6_line_8 rfl (lv_at hl 2 rfl) ?_
  obtain ⟨r_31, hc_30, hrun⟩ := mob_s rfl hrun
  refine cRS (ws := []) (As := [.int p2]) ⟨hx, hb, hml, hown, hts⟩ hOK hz hS zP0 (mtX6_isRoom l D Z hOK _ _ hc_30) (kX6_isRoom hts q2182 rfl rfl ⟨Nat.le_of_ble_eq_true rfl, Nat.le_of_ble_eq_true rfl⟩) rfl hl.1 rfl (lv_room (Nat.le_of_ble_eq_true rfl)) ⟨Nat.le_of_ble_eq_true rfl, Nat.le_of_ble_eq_true rfl⟩ dX6_line_9 ?_
  refine lv_if_ne (tgt := 19) hx hb dX6_line_12 (by decide) (fun c_32 => ?_) (fun c_32 => ?_)
  · have hrun := mif_p (bz_nz c_32) hrun
    refine lv_iconst (v := (0 : Int32)) hx hb dX6_line_19 (by decide) ?_
    exact hj_4 false _ _ hP hD hS ls (lv_sub hl [0, 1, 2] rfl) hrun
  have hrun := mif_n (bz_z c_32) hrun
  refine lv_iconst (v := (1 : Int32)) hx hb dX6_line_15 (by decide) ?_
  refine lv_goto (tgt := 20) hx hb dX6_line_16 (by decide) ?_
  exact hj_4 true _ _ hP hD hS ls (lv_sub hl [0, 1, 2] rfl) hrun
def rX6_round : Room := { frames := 3, cells := 0, slots := 0, locals := 66 }
noncomputable def fX6_round_L6 (p2 : Int32) (t : Tw) (p3 : Int32) (K_2 : Option (Int32)) : Nat → Int32 → Int32 → Option (Int32)
  | 0, _, _ => none
  | n + 1, x4_4, x5_5 =>
    if x5_5 = p2 then
      some x4_4
    else
      mob (fX6_guestsIn t (mrm ((x5_5 + p3) + (8 : Int32)) (8 : Int32))) fun r_8 =>
      if r_8 = (0 : Int32) then
        fX6_round_L6 p2 t p3 K_2 n (x4_4 + (1 : Int32)) (mrm ((x5_5 + p3) + (8 : Int32)) (8 : Int32))
      else
        K_2
noncomputable def fX6_round (t : Tw) (p1 : Int32) (p2 : Int32) (p3 : Int32) : Option (Int32) :=
  mjn (some (2000000000 : Int32)) fun K_2 =>
  fX6_round_L6 p2 t p3 K_2 mFU (0 : Int32) p1
theorem kX6_round {R : Room} {s : State} {args : Array Value} {own : String} {idx mc ms : Nat} {rm : Room} (hts : ∀ w ∈ lw_all, w.before args s = true) (hl : Cond.methodLink own idx yX6_round ∈ lw_all) (hrc : rm.cells = mc) (hrs : rm.slots = ms) (hR : rm.frames + 1 ≤ R.frames ∧ 8 + (6 + 11) + rm.locals ≤ R.locals) : CallW R s args own RX6 idx yX6_round cX6_round 6 (some .int) (ws_ yX6_round cX6_round 6 (some .int)) rm mc ms 3 :=
  cwV 3 hts (lw_V hl q2417 qs102 q115 q2418) rfl hrc hrs (by decide +kernel) hR
set_option maxHeartbeats 4000000 in
set_option maxRecDepth 100000 in
theorem mtX6_round (l : Launch) (D : va_G) (k : Nat → ClassId) (a : Nat → Nat) (Z : zZ) (hOK : zOK D zCl (zTys k) Z) (t : Tw) (p1 : Int32) (p2 : Int32) (p3 : Int32) (r : Int32) (hrun : fX6_round t p1 p2 p3 = some r) :
    CtR l yX6_round cX6_round 6 (some .int) rX6_round Z D zCl (cT k a t) [.ref (a 0), .int p1, .int p2, .int p3] (some (.int r)) := by
  refine CtR.of (by decide) (Nat.le_of_ble_eq_true rfl) ?_
  intro p e s m args below meth c hE hP hz ls hl
  obtain ⟨hx, hb, hr, hml, hown, hts, hlocks, hname⟩ := hE
  have hown : s.vm.findClass RX6 = some m.cls := hown
  have hK := hOK.1 _ _ _ hz
  have hl : lv_has ls 6 [(0, .ref (a 0)), (1, .int p1), (2, .int p2), (3, .int p3)] := hl
  unfold fX6_round at hrun
  refine lv_iconst (v := (0 : Int32)) hx hb dX6_round_0 (by decide) ?_
  refine lv_istore (lv' := [(4, .int (0 : Int32)), (0, .ref (a 0)), (1, .int p1), (2, .int p2), (3, .int p3)]) hx hb dX6_round_1 hl (by decide) rfl (fun ls hl => ?_)
  refine lv_iload_n hx hb dX6_round_3 rfl (lv_at hl 2 rfl) ?_
  refine lv_istore (lv' := [(5, .int p1), (4, .int (0 : Int32)), (0, .ref (a 0)), (1, .int p1), (2, .int p2), (3, .int p3)]) hx hb dX6_round_4 hl (by decide) rfl (fun ls hl => ?_)
  obtain ⟨K_2, hK_2, hrun⟩ := mjn_s hrun
  have hj_1 : ∀ ls : Array Slot, lv_has ls 6 [] → K_2 = some r → W p l e rX6_round s m args below meth c s.heap [] 0 0 (MQ below (QRr (some (.int r))) args s 0 0 (fun _ => False)) (F0 m 33 ls []) := by
    intro ls hl hrun
    rw [hK_2] at hrun
    refine lv_ldcw (v := (2000000000 : Int32)) hx hb hown (hts _ q2350) dX6_round_33 ?_
    cases hrun
    exact retR_i hx hb hr hlocks rfl dX6_round_36
  have hL_3 : ∀ n : Nat, ∀ (x4_4 : Int32) (x5_5 : Int32), ∀ ls : Array Slot, lv_has ls 6 [(0, .ref (a 0)), (2, .int p2), (3, .int p3), (4, .int x4_4), (5, .int x5_5)] → fX6_round_L6 p2 t p3 K_2 n x4_4 x5_5 = some r → W p l e rX6_round s m args below meth c s.heap [] 0 0 (MQ below (QRr (some (.int r))) args s 0 0 (fun _ => False)) (F0 m 6 ls []) := by
    intro n
    induction n with
    | zero =>
      intro x4_4 x5_5 ls hl hrun
      exact nomatch hrun
    | succ n ih =>
      intro x4_4 x5_5 ls hl hrun
      rw [fX6_round_L6.eq_2] at hrun
      refine lv_iload hx hb dX6_round_6 (lv_at hl 4 rfl) ?_
      refine lv_iload_n hx hb dX6_round_8 rfl (lv_at hl 1 rfl) ?_
      refine lv_icmp_eq (tgt := 43) hx hb dX6_round_9 (by decide) (fun c_6 => ?_) (fun c_6 => ?_)
      · have hrun := mif_p c_6 hrun
        refine lv_iload hx hb dX6_round_43 (lv_at hl 3 rfl) ?_
        cases hrun
        exact retR_i hx hb hr hlocks rfl dX6_round_45
      have hrun := mif_n c_6 hrun
      refine lv_iload hx hb dX6_round_12 (lv_at hl 4 rfl) ?_
      refine lv_iload_n hx hb dX6_round_14 rfl (lv_at hl 2 rfl) ?_
      refine lv_iadd hx hb dX6_round_15 ?_
      refine lv_bipush (v := (8 : Int32)) hx hb dX6_round_16 (by decide) ?_
      refine lv_iadd hx hb dX6_round_18 ?_
      refine lv_bipush (v := (8 : Int32)) hx hb dX6_round_19 (by decide) ?_
      refine lv_irem hx hb dX6_round_21 (by decide) ?_
      refine lv_istore (lv' := [(5, .int (mrm ((x5_5 + p3) + (8 : Int32)) (8 : Int32))), (0, .ref (a 0)), (2, .int p2), (3, .int p3), (4, .int x4_4)]) hx hb dX6_round_22 hl (by decide) rfl (fun ls hl => ?_)
      refine lv_aload_n hx hb dX6_round_24 rfl (lv_at hl 1 rfl) ?_
      refine lv_iload hx hb dX6_round_25 (lv_at hl 0 rfl) ?_
      obtain ⟨r_8, hc_7, hrun⟩ := mob_s rfl hrun
      refine cRV (As := [.int (mrm ((x5_5 + p3) + (8 : Int32)) (8 : Int32))]) (ci := 0) ⟨hx, hb, hml, hown, hts⟩ hOK hz va_S.rf hP (mtX6_guestsIn l D k a Z hOK _ _ _ hc_7) (kX6_guestsIn hts q2189 rfl rfl ⟨Nat.le_of_ble_eq_true rfl, Nat.le_of_ble_eq_true rfl⟩) 0 rfl rfl rfl hl.1 rfl (lv_room (Nat.le_of_ble_eq_true rfl)) ⟨Nat.le_of_ble_eq_true rfl, Nat.le_of_ble_eq_true rfl⟩ dX6_round_27 ?_
      refine lv_if_eq (tgt := 37) hx hb dX6_round_30 (by decide) (fun c_9 => ?_) (fun c_9 => ?_)
      · have hrun := mif_p c_9 hrun
        refine lv_iinc (v := (x4_4 + (1 : Int32))) (lv' := [(4, .int (x4_4 + (1 : Int32))), (5, .int (mrm ((x5_5 + p3) + (8 : Int32)) (8 : Int32))), (0, .ref (a 0)), (2, .int p2), (3, .int p3)]) hx hb dX6_round_37 hl (k := 4) rfl rfl (by decide) rfl (fun ls hl => ?_)
        refine lv_goto (tgt := 6) hx hb dX6_round_40 (by decide) ?_
        exact ih (x4_4 + (1 : Int32)) (mrm ((x5_5 + p3) + (8 : Int32)) (8 : Int32)) ls (lv_sub hl [2, 3, 4, 0, 1] rfl) hrun
      have hrun := mif_n c_9 hrun
      exact hj_1 ls (lv_sub hl [] rfl) hrun
  exact hL_3 mFU (0 : Int32) p1 ls (lv_sub hl [2, 4, 5, 1, 0] rfl) hrun
def rX6_crowd : Room := { frames := 3, cells := 0, slots := 0, locals := 66 }
noncomputable def fX6_crowd_L11 (t_1 : Tw) : Nat → Int32 → Int32 → Int32 → Option (Int32 × Tw)
  | 0, _, _, _ => none
  | n + 1, x1_3, x2_4, x3_5 =>
    if (8 : Int32) ≤ x3_5 then
      some (x1_3, t_1)
    else
      mob (fX6_guestsIn t_1 x3_5) fun r_8 =>
      mob (fX6_bits r_8) fun r_10 =>
      if x2_4 < r_10 then
        mob (fX6_guestsIn t_1 x3_5) fun r_13 =>
        mob (fX6_bits r_13) fun r_15 =>
        fX6_crowd_L11 t_1 n x3_5 r_15 (x3_5 + (1 : Int32))
      else
        fX6_crowd_L11 t_1 n x1_3 x2_4 (x3_5 + (1 : Int32))
noncomputable def fX6_crowd (t : Tw) : Option (Int32 × Tw) :=
  mlt (tw_s_thrown t (0 : Int32)) fun t_1 =>
  fX6_crowd_L11 t_1 mFU (-1 : Int32) (0 : Int32) (0 : Int32)
theorem kX6_crowd {R : Room} {s : State} {args : Array Value} {own : String} {idx mc ms : Nat} {rm : Room} (hts : ∀ w ∈ lw_all, w.before args s = true) (hl : Cond.methodLink own idx yX6_crowd ∈ lw_all) (hrc : rm.cells = mc) (hrs : rm.slots = ms) (hR : rm.frames + 1 ≤ R.frames ∧ 8 + (4 + 11) + rm.locals ≤ R.locals) : CallW R s args own RX6 idx yX6_crowd cX6_crowd 4 (some .int) (ws_ yX6_crowd cX6_crowd 4 (some .int)) rm mc ms 0 :=
  cwV 0 hts (lw_V hl q2420 q2421 q115 q2422) rfl hrc hrs (by decide +kernel) hR
set_option maxHeartbeats 4000000 in
set_option maxRecDepth 100000 in
theorem mtX6_crowd (l : Launch) (D : va_G) (k : Nat → ClassId) (a : Nat → Nat) (Z : zZ) (hOK : zOK D zCl (zTys k) Z) (t : Tw) (r : Int32) (tt : Tw) (hrun : fX6_crowd t = some (r, tt)) :
    CtW l yX6_crowd cX6_crowd 4 (some .int) rX6_crowd Z D zCl (cT k a t) [.ref (a 0)] (fun r' w' => r' = (some (.int r)) ∧ w' = cT k a tt) 0 0 := by
  refine CtW.of (by decide) (Nat.le_of_ble_eq_true rfl) ?_
  intro p e s m args below meth c A hE hA hP hD hS hz ls hl
  obtain ⟨hx, hb, hr, hml, hown, hts, hlocks, hname⟩ := hE
  have hown : s.vm.findClass RX6 = some m.cls := hown
  have hK := hOK.1 _ _ _ hz
  have hl : lv_has ls 4 [(0, .ref (a 0))] := hl
  unfold fX6_crowd at hrun
  refine lv_aload_n hx hb dX6_crowd_0 rfl (lv_at hl 0 rfl) ?_
  refine lv_iconst (v := (0 : Int32)) hx hb dX6_crowd_1 (by decide) ?_
  refine va_put (ci := 0) (v := .int (0 : Int32)) (ty := tyX6 0) (C := RX6) (T := TX6) (N := 22) hx hb hts in_X6 tyX6 tyX6_ok nmX6 hown hK hP hD hS 0 rfl rfl 0 (by decide) (hts _ q1902) (fun _ h9 => h9) rfl (tyX6_ok 0 (by decide)) rfl rfl (Nat.le_of_ble_eq_true rfl) dX6_crowd_2 (fun H locs hP hD hS => ?_)
  have hP : va_P D zCl (cT k a (tw_s_thrown t (0 : Int32))) H := hP
  have hD : va_D A (cT k a (tw_s_thrown t (0 : Int32))) := hD
  obtain ⟨t_1, et_1⟩ : ∃ z : Tw, z = (tw_s_thrown t (0 : Int32)) := ⟨_, rfl⟩
  rw [← et_1] at hP hD
  have hrun := mlt_s hrun t_1 et_1
  refine lv_iconst (v := (-1 : Int32)) hx hb dX6_crowd_5 (by decide) ?_
  refine lv_istore_n (lv' := [(1, .int (-1 : Int32)), (0, .ref (a 0))]) hx hb dX6_crowd_6 rfl hl (by decide) rfl (fun ls hl => ?_)
  refine lv_iconst (v := (0 : Int32)) hx hb dX6_crowd_7 (by decide) ?_
  refine lv_istore_n (lv' := [(2, .int (0 : Int32)), (1, .int (-1 : Int32)), (0, .ref (a 0))]) hx hb dX6_crowd_8 rfl hl (by decide) rfl (fun ls hl => ?_)
  refine lv_iconst (v := (0 : Int32)) hx hb dX6_crowd_9 (by decide) ?_
  refine lv_istore_n (lv' := [(3, .int (0 : Int32)), (2, .int (0 : Int32)), (1, .int (-1 : Int32)), (0, .ref (a 0))]) hx hb dX6_crowd_10 rfl hl (by decide) rfl (fun ls hl => ?_)
  have hL_2 : ∀ n : Nat, ∀ (x1_3 : Int32) (x2_4 : Int32) (x3_5 : Int32), ∀ (H : Heap) (locs : List Loc), va_P D zCl (cT k a t_1) H → va_D A (cT k a t_1) → va_S A s.heap H locs → ∀ ls : Array Slot, lv_has ls 4 [(0, .ref (a 0)), (1, .int x1_3), (2, .int x2_4), (3, .int x3_5)] → fX6_crowd_L11 t_1 n x1_3 x2_4 x3_5 = some (r, tt) → W p l e rX6_crowd s m args below meth c H locs 0 0 (MQ below (QWr (fun r' w' => r' = (some (.int r)) ∧ w' = cT k a tt) D zCl A) args s 0 0 A) (F0 m 11 ls []) := by
    intro n
    induction n with
    | zero =>
      intro x1_3 x2_4 x3_5 H locs hP hD hS ls hl hrun
      exact nomatch hrun
    | succ n ih =>
      intro x1_3 x2_4 x3_5 H locs hP hD hS ls hl hrun
      rw [fX6_crowd_L11.eq_2] at hrun
      refine lv_iload_n hx hb dX6_crowd_11 rfl (lv_at hl 3 rfl) ?_
      refine lv_bipush (v := (8 : Int32)) hx hb dX6_crowd_12 (by decide) ?_
      refine lv_icmp_ge (tgt := 49) hx hb dX6_crowd_14 (by decide) (fun c_6 => ?_) (fun c_6 => ?_)
      · have hrun := mif_p c_6 hrun
        refine lv_iload_n hx hb dX6_crowd_49 rfl (lv_at hl 1 rfl) ?_
        cases hrun
        exact retW_i hx hb hr hlocks hP hD hS ⟨rfl, rfl⟩ dX6_crowd_50
      have hrun := mif_n c_6 hrun
      refine lv_aload_n hx hb dX6_crowd_17 rfl (lv_at hl 0 rfl) ?_
      refine lv_iload_n hx hb dX6_crowd_18 rfl (lv_at hl 3 rfl) ?_
      obtain ⟨r_8, hc_7, hrun⟩ := mob_s rfl hrun
      refine cRV (As := [.int x3_5]) (ci := 0) ⟨hx, hb, hml, hown, hts⟩ hOK hz hS hP (mtX6_guestsIn l D k a Z hOK _ _ _ hc_7) (kX6_guestsIn hts q2189 rfl rfl ⟨Nat.le_of_ble_eq_true rfl, Nat.le_of_ble_eq_true rfl⟩) 0 rfl rfl rfl hl.1 rfl (lv_room (Nat.le_of_ble_eq_true rfl)) ⟨Nat.le_of_ble_eq_true rfl, Nat.le_of_ble_eq_true rfl⟩ dX6_crowd_19 ?_
      obtain ⟨r_10, hc_9, hrun⟩ := mob_s rfl hrun
      refine cRS (ws := []) (As := [.int r_8]) ⟨hx, hb, hml, hown, hts⟩ hOK hz hS zP0 (mtX6_bits l D Z hOK _ _ hc_9) (kX6_bits hts q2148 rfl rfl ⟨Nat.le_of_ble_eq_true rfl, Nat.le_of_ble_eq_true rfl⟩) rfl hl.1 rfl (lv_room (Nat.le_of_ble_eq_true rfl)) ⟨Nat.le_of_ble_eq_true rfl, Nat.le_of_ble_eq_true rfl⟩ dX6_crowd_22 ?_
      refine lv_iload_n hx hb dX6_crowd_25 rfl (lv_at hl 2 rfl) ?_
      refine lv_icmp_gt (tgt := 32) hx hb dX6_crowd_26 (by decide) (fun c_11 => ?_) (fun c_11 => ?_)
      · have hrun := mif_p c_11 hrun
        refine lv_aload_n hx hb dX6_crowd_32 rfl (lv_at hl 0 rfl) ?_
        refine lv_iload_n hx hb dX6_crowd_33 rfl (lv_at hl 3 rfl) ?_
        obtain ⟨r_13, hc_12, hrun⟩ := mob_s rfl hrun
        refine cRV (As := [.int x3_5]) (ci := 0) ⟨hx, hb, hml, hown, hts⟩ hOK hz hS hP (mtX6_guestsIn l D k a Z hOK _ _ _ hc_12) (kX6_guestsIn hts q2189 rfl rfl ⟨Nat.le_of_ble_eq_true rfl, Nat.le_of_ble_eq_true rfl⟩) 0 rfl rfl rfl hl.1 rfl (lv_room (Nat.le_of_ble_eq_true rfl)) ⟨Nat.le_of_ble_eq_true rfl, Nat.le_of_ble_eq_true rfl⟩ dX6_crowd_34 ?_
        obtain ⟨r_15, hc_14, hrun⟩ := mob_s rfl hrun
        refine cRS (ws := []) (As := [.int r_13]) ⟨hx, hb, hml, hown, hts⟩ hOK hz hS zP0 (mtX6_bits l D Z hOK _ _ hc_14) (kX6_bits hts q2148 rfl rfl ⟨Nat.le_of_ble_eq_true rfl, Nat.le_of_ble_eq_true rfl⟩) rfl hl.1 rfl (lv_room (Nat.le_of_ble_eq_true rfl)) ⟨Nat.le_of_ble_eq_true rfl, Nat.le_of_ble_eq_true rfl⟩ dX6_crowd_37 ?_
        refine lv_istore_n (lv' := [(2, .int r_15), (0, .ref (a 0)), (1, .int x1_3), (3, .int x3_5)]) hx hb dX6_crowd_40 rfl hl (by decide) rfl (fun ls hl => ?_)
        refine lv_iload_n hx hb dX6_crowd_41 rfl (lv_at hl 3 rfl) ?_
        refine lv_istore_n (lv' := [(1, .int x3_5), (2, .int r_15), (0, .ref (a 0)), (3, .int x3_5)]) hx hb dX6_crowd_42 rfl hl (by decide) rfl (fun ls hl => ?_)
        refine lv_iinc (v := (x3_5 + (1 : Int32))) (lv' := [(3, .int (x3_5 + (1 : Int32))), (1, .int x3_5), (2, .int r_15), (0, .ref (a 0))]) hx hb dX6_crowd_43 hl (k := 3) rfl rfl (by decide) rfl (fun ls hl => ?_)
        refine lv_goto (tgt := 11) hx hb dX6_crowd_46 (by decide) ?_
        exact ih x3_5 r_15 (x3_5 + (1 : Int32)) _ _ hP hD hS ls (lv_sub hl [3, 1, 2, 0] rfl) hrun
      have hrun := mif_n c_11 hrun
      refine lv_goto (tgt := 43) hx hb dX6_crowd_29 (by decide) ?_
      refine lv_iinc (v := (x3_5 + (1 : Int32))) (lv' := [(3, .int (x3_5 + (1 : Int32))), (0, .ref (a 0)), (1, .int x1_3), (2, .int x2_4)]) hx hb dX6_crowd_43 hl (k := 3) rfl rfl (by decide) rfl (fun ls hl => ?_)
      refine lv_goto (tgt := 11) hx hb dX6_crowd_46 (by decide) ?_
      exact ih x1_3 x2_4 (x3_5 + (1 : Int32)) _ _ hP hD hS ls (lv_sub hl [1, 2, 3, 0] rfl) hrun
  exact hL_2 mFU (-1 : Int32) (0 : Int32) (0 : Int32) _ _ hP hD hS ls (lv_sub hl [3, 2, 1, 0] rfl) hrun
def rX6_agree : Room := { frames := 1, cells := 0, slots := 0, locals := 22 }
noncomputable def fX6_agree_L24 (p1 : Int32) (t_7 : Tw) : Nat → Int32 → Int32 → Option (Int32 × Tw)
  | 0, _, _ => none
  | n + 1, x2_9, x3_10 =>
    if p1 ≤ x3_10 then
      some (x2_9, t_7)
    else
      if (tw_thrown t_7) = (0 : Int32) then
        mob (fX6_isSaturday t_7 (0 : Int32) (((tw_m t_7) 10) + x3_10)) fun r_14 =>
        mob (fX6_isSaturday t_7 (1 : Int32) (((tw_m t_7) 10) + x3_10)) fun r_16 =>
        if (bz r_14) = (bz r_16) then
          fX6_agree_L24 p1 t_7 n (x2_9 + (1 : Int32)) (x3_10 + (1 : Int32))
        else
          fX6_agree_L24 p1 t_7 n (x2_9 + (0 : Int32)) (x3_10 + (1 : Int32))
      else
        some (x2_9, t_7)
noncomputable def fX6_agree (t : Tw) (p1 : Int32) : Option (Int32 × Tw) :=
  mob (fX6_isIn p1 (0 : Int32) (400 : Int32)) fun r_2 =>
  mjn (fun (y_5 : Bool) =>
  mlt (tw_s_thrown t (bz y_5)) fun t_7 =>
  fX6_agree_L24 p1 t_7 mFU (0 : Int32) (0 : Int32)) fun K_6 =>
  if r_2 = true then
    K_6 false
  else
    K_6 true
theorem kX6_agree {R : Room} {s : State} {args : Array Value} {own : String} {idx mc ms : Nat} {rm : Room} (hts : ∀ w ∈ lw_all, w.before args s = true) (hl : Cond.methodLink own idx yX6_agree ∈ lw_all) (hrc : rm.cells = mc) (hrs : rm.slots = ms) (hR : rm.frames + 1 ≤ R.frames ∧ 8 + (4 + 11) + rm.locals ≤ R.locals) : CallW R s args own RX6 idx yX6_agree cX6_agree 4 (some .int) (ws_ yX6_agree cX6_agree 4 (some .int)) rm mc ms 1 :=
  cwV 1 hts (lw_V hl q2428 q2429 q115 q2430) rfl hrc hrs (by decide +kernel) hR
set_option maxHeartbeats 4000000 in
set_option maxRecDepth 100000 in
theorem mtX6_agree (l : Launch) (D : va_G) (k : Nat → ClassId) (a : Nat → Nat) (Z : zZ) (hOK : zOK D zCl (zTys k) Z) (t : Tw) (p1 : Int32) (r : Int32) (tt : Tw) (hrun : fX6_agree t p1 = some (r, tt)) :
    CtW l yX6_agree cX6_agree 4 (some .int) rX6_agree Z D zCl (cT k a t) [.ref (a 0), .int p1] (fun r' w' => r' = (some (.int r)) ∧ w' = cT k a tt) 0 0 := by
  refine CtW.of (by decide) (Nat.le_of_ble_eq_true rfl) ?_
  intro p e s m args below meth c A hE hA hP hD hS hz ls hl
  obtain ⟨hx, hb, hr, hml, hown, hts, hlocks, hname⟩ := hE
  have hown : s.vm.findClass RX6 = some m.cls := hown
  have hK := hOK.1 _ _ _ hz
  have hl : lv_has ls 4 [(0, .ref (a 0)), (1, .int p1)] := hl
  unfold fX6_agree at hrun
  refine lv_aload_n hx hb dX6_agree_0 rfl (lv_at hl 0 rfl) ?_
  refine lv_iload_n hx hb dX6_agree_1 rfl (lv_at hl 1 rfl) ?_
  refine lv_iconst (v := (0 : Int32)) hx hb dX6_agree_2 (by decide) ?_
  refine lv_sipush (v := (400 : Int32)) hx hb dX6_agree_3 (by decide) ?_
  obtain ⟨r_2, hc_1, hrun⟩ := mob_s rfl hrun
  refine cRS (ws := []) (As := [.int p1, .int (0 : Int32), .int (400 : Int32)]) ⟨hx, hb, hml, hown, hts⟩ hOK hz hS zP0 (mtX6_isIn l D Z hOK _ _ _ _ hc_1) (kX6_isIn hts q1981 rfl rfl ⟨Nat.le_of_ble_eq_true rfl, Nat.le_of_ble_eq_true rfl⟩) rfl hl.1 rfl (lv_room (Nat.le_of_ble_eq_true rfl)) ⟨Nat.le_of_ble_eq_true rfl, Nat.le_of_ble_eq_true rfl⟩ dX6_agree_6 ?_
  obtain ⟨K_6, hK_6, hrun⟩ := mjn_s hrun
  have hj_4 : ∀ (y_5 : Bool), ∀ (H : Heap) (locs : List Loc), va_P D zCl (cT k a t) H → va_D A (cT k a t) → va_S A s.heap H locs → ∀ ls : Array Slot, lv_has ls 4 [(0, .ref (a 0)), (1, .int p1)] → K_6 y_5 = some (r, tt) → W p l e rX6_agree s m args below meth c H locs 0 0 (MQ below (QWr (fun r' w' => r' = (some (.int r)) ∧ w' = cT k a tt) D zCl A) args s 0 0 A) (F0 m 17 ls [.int (bz y_5), .ref (a 0)]) := by
    intro y_5 H locs hP hD hS ls hl hrun
    rw [hK_6] at hrun
    refine va_put (ci := 0) (v := .int (bz y_5)) (ty := tyX6 0) (C := RX6) (T := TX6) (N := 22) hx hb hts in_X6 tyX6 tyX6_ok nmX6 hown hK hP hD hS 0 rfl rfl 0 (by decide) (hts _ q1902) (fun _ h9 => h9) rfl (tyX6_ok 0 (by decide)) rfl rfl (Nat.le_of_ble_eq_true rfl) dX6_agree_17 (fun H locs hP hD hS => ?_)
    have hP : va_P D zCl (cT k a (tw_s_thrown t (bz y_5))) H := hP
    have hD : va_D A (cT k a (tw_s_thrown t (bz y_5))) := hD
    obtain ⟨t_7, et_7⟩ : ∃ z : Tw, z = (tw_s_thrown t (bz y_5)) := ⟨_, rfl⟩
    rw [← et_7] at hP hD
    have hrun := mlt_s hrun t_7 et_7
    refine lv_iconst (v := (0 : Int32)) hx hb dX6_agree_20 (by decide) ?_
    refine lv_istore_n (lv' := [(2, .int (0 : Int32)), (0, .ref (a 0)), (1, .int p1)]) hx hb dX6_agree_21 rfl hl (by decide) rfl (fun ls hl => ?_)
    refine lv_iconst (v := (0 : Int32)) hx hb dX6_agree_22 (by decide) ?_
    refine lv_istore_n (lv' := [(3, .int (0 : Int32)), (2, .int (0 : Int32)), (0, .ref (a 0)), (1, .int p1)]) hx hb dX6_agree_23 rfl hl (by decide) rfl (fun ls hl => ?_)
    have hL_8 : ∀ n : Nat, ∀ (x2_9 : Int32) (x3_10 : Int32), ∀ (H : Heap) (locs : List Loc), va_P D zCl (cT k a t_7) H → va_D A (cT k a t_7) → va_S A s.heap H locs → ∀ ls : Array Slot, lv_has ls 4 [(0, .ref (a 0)), (1, .int p1), (2, .int x2_9), (3, .int x3_10)] → fX6_agree_L24 p1 t_7 n x2_9 x3_10 = some (r, tt) → W p l e rX6_agree s m args below meth c H locs 0 0 (MQ below (QWr (fun r' w' => r' = (some (.int r)) ∧ w' = cT k a tt) D zCl A) args s 0 0 A) (F0 m 24 ls []) := by
      intro n
      induction n with
      | zero =>
        intro x2_9 x3_10 H locs hP hD hS ls hl hrun
        exact nomatch hrun
      | succ n ih =>
        intro x2_9 x3_10 H locs hP hD hS ls hl hrun
        rw [fX6_agree_L24.eq_2] at hrun
        refine lv_iload_n hx hb dX6_agree_24 rfl (lv_at hl 3 rfl) ?_
        refine lv_iload_n hx hb dX6_agree_25 rfl (lv_at hl 1 rfl) ?_
        refine lv_icmp_ge (tgt := 81) hx hb dX6_agree_26 (by decide) (fun c_11 => ?_) (fun c_11 => ?_)
        · have hrun := mif_p c_11 hrun
          refine lv_iload_n hx hb dX6_agree_81 rfl (lv_at hl 2 rfl) ?_
          cases hrun
          exact retW_i hx hb hr hlocks hP hD hS ⟨rfl, rfl⟩ dX6_agree_82
        have hrun := mif_n c_11 hrun
        refine lv_aload_n hx hb dX6_agree_29 rfl (lv_at hl 0 rfl) ?_
        refine va_get (ci := 0) (v := .int (tw_thrown t_7)) (C := RX6) (T := TX6) (N := 22) hx hb hts in_X6 hown hK hP 0 rfl rfl 0 (by decide) (hts _ q1902) (fun _ h9 => h9) rfl dX6_agree_30 ?_
        refine lv_if_ne (tgt := 81) hx hb dX6_agree_33 (by decide) (fun c_12 => ?_) (fun c_12 => ?_)
        · have hrun := mif_n c_12 hrun
          refine lv_iload_n hx hb dX6_agree_81 rfl (lv_at hl 2 rfl) ?_
          cases hrun
          exact retW_i hx hb hr hlocks hP hD hS ⟨rfl, rfl⟩ dX6_agree_82
        have hrun := mif_p c_12 hrun
        refine lv_iload_n hx hb dX6_agree_36 rfl (lv_at hl 2 rfl) ?_
        refine lv_aload_n hx hb dX6_agree_37 rfl (lv_at hl 0 rfl) ?_
        refine lv_iconst (v := (0 : Int32)) hx hb dX6_agree_38 (by decide) ?_
        refine lv_aload_n hx hb dX6_agree_39 rfl (lv_at hl 0 rfl) ?_
        refine va_get (ci := 0) (v := .ref (a 1)) (C := RX6) (T := TX6) (N := 22) hx hb hts in_X6 hown hK hP 0 rfl rfl 1 (by decide) (hts _ q1903) (fun _ h9 => h9) rfl dX6_agree_40 ?_
        refine lv_bipush (v := (10 : Int32)) hx hb dX6_agree_43 (by decide) ?_
        refine va_ialdk (k := 10) hx hb hK hP 1 0 rfl rfl rfl (show ¬ _ from by decide) dX6_agree_45 ?_
        refine lv_iload_n hx hb dX6_agree_46 rfl (lv_at hl 3 rfl) ?_
        refine lv_iadd hx hb dX6_agree_47 ?_
        obtain ⟨r_14, hc_13, hrun⟩ := mob_s rfl hrun
        refine cRV (As := [.int (0 : Int32), .int (((tw_m t_7) 10) + x3_10)]) (ci := 0) ⟨hx, hb, hml, hown, hts⟩ hOK hz hS hP (mtX6_isSaturday l D k a Z hOK _ _ _ _ hc_13) (kX6_isSaturday hts q2151 rfl rfl ⟨Nat.le_of_ble_eq_true rfl, Nat.le_of_ble_eq_true rfl⟩) 0 rfl rfl rfl hl.1 rfl (lv_room (Nat.le_of_ble_eq_true rfl)) ⟨Nat.le_of_ble_eq_true rfl, Nat.le_of_ble_eq_true rfl⟩ dX6_agree_48 ?_
        refine lv_aload_n hx hb dX6_agree_51 rfl (lv_at hl 0 rfl) ?_
        refine lv_iconst (v := (1 : Int32)) hx hb dX6_agree_52 (by decide) ?_
        refine lv_aload_n hx hb dX6_agree_53 rfl (lv_at hl 0 rfl) ?_
        refine va_get (ci := 0) (v := .ref (a 1)) (C := RX6) (T := TX6) (N := 22) hx hb hts in_X6 hown hK hP 0 rfl rfl 1 (by decide) (hts _ q1903) (fun _ h9 => h9) rfl dX6_agree_54 ?_
        refine lv_bipush (v := (10 : Int32)) hx hb dX6_agree_57 (by decide) ?_
        refine va_ialdk (k := 10) hx hb hK hP 1 0 rfl rfl rfl (show ¬ _ from by decide) dX6_agree_59 ?_
        refine lv_iload_n hx hb dX6_agree_60 rfl (lv_at hl 3 rfl) ?_
        refine lv_iadd hx hb dX6_agree_61 ?_
        obtain ⟨r_16, hc_15, hrun⟩ := mob_s rfl hrun
        refine cRV (As := [.int (1 : Int32), .int (((tw_m t_7) 10) + x3_10)]) (ci := 0) ⟨hx, hb, hml, hown, hts⟩ hOK hz hS hP (mtX6_isSaturday l D k a Z hOK _ _ _ _ hc_15) (kX6_isSaturday hts q2151 rfl rfl ⟨Nat.le_of_ble_eq_true rfl, Nat.le_of_ble_eq_true rfl⟩) 0 rfl rfl rfl hl.1 rfl (lv_room (Nat.le_of_ble_eq_true rfl)) ⟨Nat.le_of_ble_eq_true rfl, Nat.le_of_ble_eq_true rfl⟩ dX6_agree_62 ?_
        refine lv_icmp_ne (tgt := 72) hx hb dX6_agree_65 (by decide) (fun c_17 => ?_) (fun c_17 => ?_)
        · have hrun := mif_n c_17 hrun
          refine lv_iconst (v := (0 : Int32)) hx hb dX6_agree_72 (by decide) ?_
          refine lv_iadd hx hb dX6_agree_73 ?_
          refine lv_istore_n (lv' := [(2, .int (x2_9 + (0 : Int32))), (0, .ref (a 0)), (1, .int p1), (3, .int x3_10)]) hx hb dX6_agree_74 rfl hl (by decide) rfl (fun ls hl => ?_)
          refine lv_iinc (v := (x3_10 + (1 : Int32))) (lv' := [(3, .int (x3_10 + (1 : Int32))), (2, .int (x2_9 + (0 : Int32))), (0, .ref (a 0)), (1, .int p1)]) hx hb dX6_agree_75 hl (k := 3) rfl rfl (by decide) rfl (fun ls hl => ?_)
          refine lv_goto (tgt := 24) hx hb dX6_agree_78 (by decide) ?_
          exact ih (x2_9 + (0 : Int32)) (x3_10 + (1 : Int32)) _ _ hP hD hS ls (lv_sub hl [2, 3, 1, 0] rfl) hrun
        have hrun := mif_p c_17 hrun
        refine lv_iconst (v := (1 : Int32)) hx hb dX6_agree_68 (by decide) ?_
        refine lv_goto (tgt := 73) hx hb dX6_agree_69 (by decide) ?_
        refine lv_iadd hx hb dX6_agree_73 ?_
        refine lv_istore_n (lv' := [(2, .int (x2_9 + (1 : Int32))), (0, .ref (a 0)), (1, .int p1), (3, .int x3_10)]) hx hb dX6_agree_74 rfl hl (by decide) rfl (fun ls hl => ?_)
        refine lv_iinc (v := (x3_10 + (1 : Int32))) (lv' := [(3, .int (x3_10 + (1 : Int32))), (2, .int (x2_9 + (1 : Int32))), (0, .ref (a 0)), (1, .int p1)]) hx hb dX6_agree_75 hl (k := 3) rfl rfl (by decide) rfl (fun ls hl => ?_)
        refine lv_goto (tgt := 24) hx hb dX6_agree_78 (by decide) ?_
        exact ih (x2_9 + (1 : Int32)) (x3_10 + (1 : Int32)) _ _ hP hD hS ls (lv_sub hl [2, 3, 1, 0] rfl) hrun
    exact hL_8 mFU (0 : Int32) (0 : Int32) _ _ hP hD hS ls (lv_sub hl [2, 3, 1, 0] rfl) hrun
  refine lv_if_ne (tgt := 16) hx hb dX6_agree_9 (by decide) (fun c_3 => ?_) (fun c_3 => ?_)
  · have hrun := mif_p (bz_nz c_3) hrun
    refine lv_iconst (v := (0 : Int32)) hx hb dX6_agree_16 (by decide) ?_
    exact hj_4 false _ _ hP hD hS ls (lv_sub hl [0, 1] rfl) hrun
  have hrun := mif_n (bz_z c_3) hrun
  refine lv_iconst (v := (1 : Int32)) hx hb dX6_agree_12 (by decide) ?_
  refine lv_goto (tgt := 17) hx hb dX6_agree_13 (by decide) ?_
  exact hj_4 true _ _ hP hD hS ls (lv_sub hl [0, 1] rfl) hrun
def rX6_need : Room := { frames := 1, cells := 0, slots := 0, locals := 22 }
noncomputable def fX6_need (t : Tw) (p1 : Int32) : Option (Int32 × Tw) :=
  mob (fX6_isIn p1 (1 : Int32) (9999 : Int32)) fun r_2 =>
  mjn (fun (y_5 : Bool) =>
  mlt (tw_s_thrown t (bz y_5)) fun t_7 =>
  if (tw_thrown t_7) ≤ (0 : Int32) then
    mob (fX6_greater (0 : Int32) ((p1 - ((tw_m t_7) 8)) - ((tw_m t_7) 7))) fun r_10 =>
    some (r_10, t_7)
  else
    some ((0 : Int32), t_7)) fun K_6 =>
  if r_2 = true then
    K_6 false
  else
    K_6 true
theorem kX6_need {R : Room} {s : State} {args : Array Value} {own : String} {idx mc ms : Nat} {rm : Room} (hts : ∀ w ∈ lw_all, w.before args s = true) (hl : Cond.methodLink own idx yX6_need ∈ lw_all) (hrc : rm.cells = mc) (hrs : rm.slots = ms) (hR : rm.frames + 1 ≤ R.frames ∧ 8 + (2 + 11) + rm.locals ≤ R.locals) : CallW R s args own RX6 idx yX6_need cX6_need 2 (some .int) (ws_ yX6_need cX6_need 2 (some .int)) rm mc ms 1 :=
  cwV 1 hts (lw_V hl q2432 q2433 q115 q2434) rfl hrc hrs (by decide +kernel) hR
set_option maxHeartbeats 4000000 in
set_option maxRecDepth 100000 in
theorem mtX6_need (l : Launch) (D : va_G) (k : Nat → ClassId) (a : Nat → Nat) (Z : zZ) (hOK : zOK D zCl (zTys k) Z) (t : Tw) (p1 : Int32) (r : Int32) (tt : Tw) (hrun : fX6_need t p1 = some (r, tt)) :
    CtW l yX6_need cX6_need 2 (some .int) rX6_need Z D zCl (cT k a t) [.ref (a 0), .int p1] (fun r' w' => r' = (some (.int r)) ∧ w' = cT k a tt) 0 0 := by
  refine CtW.of (by decide) (Nat.le_of_ble_eq_true rfl) ?_
  intro p e s m args below meth c A hE hA hP hD hS hz ls hl
  obtain ⟨hx, hb, hr, hml, hown, hts, hlocks, hname⟩ := hE
  have hown : s.vm.findClass RX6 = some m.cls := hown
  have hK := hOK.1 _ _ _ hz
  have hl : lv_has ls 2 [(0, .ref (a 0)), (1, .int p1)] := hl
  unfold fX6_need at hrun
  refine lv_aload_n hx hb dX6_need_0 rfl (lv_at hl 0 rfl) ?_
  refine lv_iload_n hx hb dX6_need_1 rfl (lv_at hl 1 rfl) ?_
  refine lv_iconst (v := (1 : Int32)) hx hb dX6_need_2 (by decide) ?_
  refine lv_sipush (v := (9999 : Int32)) hx hb dX6_need_3 (by decide) ?_
  obtain ⟨r_2, hc_1, hrun⟩ := mob_s rfl hrun
  refine cRS (ws := []) (As := [.int p1, .int (1 : Int32), .int (9999 : Int32)]) ⟨hx, hb, hml, hown, hts⟩ hOK hz hS zP0 (mtX6_isIn l D Z hOK _ _ _ _ hc_1) (kX6_isIn hts q1981 rfl rfl ⟨Nat.le_of_ble_eq_true rfl, Nat.le_of_ble_eq_true rfl⟩) rfl hl.1 rfl (lv_room (Nat.le_of_ble_eq_true rfl)) ⟨Nat.le_of_ble_eq_true rfl, Nat.le_of_ble_eq_true rfl⟩ dX6_need_6 ?_
  obtain ⟨K_6, hK_6, hrun⟩ := mjn_s hrun
  have hj_4 : ∀ (y_5 : Bool), ∀ (H : Heap) (locs : List Loc), va_P D zCl (cT k a t) H → va_D A (cT k a t) → va_S A s.heap H locs → ∀ ls : Array Slot, lv_has ls 2 [(0, .ref (a 0)), (1, .int p1)] → K_6 y_5 = some (r, tt) → W p l e rX6_need s m args below meth c H locs 0 0 (MQ below (QWr (fun r' w' => r' = (some (.int r)) ∧ w' = cT k a tt) D zCl A) args s 0 0 A) (F0 m 17 ls [.int (bz y_5), .ref (a 0)]) := by
    intro y_5 H locs hP hD hS ls hl hrun
    rw [hK_6] at hrun
    refine va_put (ci := 0) (v := .int (bz y_5)) (ty := tyX6 0) (C := RX6) (T := TX6) (N := 22) hx hb hts in_X6 tyX6 tyX6_ok nmX6 hown hK hP hD hS 0 rfl rfl 0 (by decide) (hts _ q1902) (fun _ h9 => h9) rfl (tyX6_ok 0 (by decide)) rfl rfl (Nat.le_of_ble_eq_true rfl) dX6_need_17 (fun H locs hP hD hS => ?_)
    have hP : va_P D zCl (cT k a (tw_s_thrown t (bz y_5))) H := hP
    have hD : va_D A (cT k a (tw_s_thrown t (bz y_5))) := hD
    obtain ⟨t_7, et_7⟩ : ∃ z : Tw, z = (tw_s_thrown t (bz y_5)) := ⟨_, rfl⟩
    rw [← et_7] at hP hD
    have hrun := mlt_s hrun t_7 et_7
    refine lv_aload_n hx hb dX6_need_20 rfl (lv_at hl 0 rfl) ?_
    refine va_get (ci := 0) (v := .int (tw_thrown t_7)) (C := RX6) (T := TX6) (N := 22) hx hb hts in_X6 hown hK hP 0 rfl rfl 0 (by decide) (hts _ q1902) (fun _ h9 => h9) rfl dX6_need_21 ?_
    refine lv_if_le (tgt := 31) hx hb dX6_need_24 (by decide) (fun c_8 => ?_) (fun c_8 => ?_)
    · have hrun := mif_p c_8 hrun
      refine lv_iconst (v := (0 : Int32)) hx hb dX6_need_31 (by decide) ?_
      refine lv_iload_n hx hb dX6_need_32 rfl (lv_at hl 1 rfl) ?_
      refine lv_aload_n hx hb dX6_need_33 rfl (lv_at hl 0 rfl) ?_
      refine va_get (ci := 0) (v := .ref (a 1)) (C := RX6) (T := TX6) (N := 22) hx hb hts in_X6 hown hK hP 0 rfl rfl 1 (by decide) (hts _ q1903) (fun _ h9 => h9) rfl dX6_need_34 ?_
      refine lv_bipush (v := (8 : Int32)) hx hb dX6_need_37 (by decide) ?_
      refine va_ialdk (k := 8) hx hb hK hP 1 0 rfl rfl rfl (show ¬ _ from by decide) dX6_need_39 ?_
      refine lv_isub hx hb dX6_need_40 ?_
      refine lv_aload_n hx hb dX6_need_41 rfl (lv_at hl 0 rfl) ?_
      refine va_get (ci := 0) (v := .ref (a 1)) (C := RX6) (T := TX6) (N := 22) hx hb hts in_X6 hown hK hP 0 rfl rfl 1 (by decide) (hts _ q1903) (fun _ h9 => h9) rfl dX6_need_42 ?_
      refine lv_bipush (v := (7 : Int32)) hx hb dX6_need_45 (by decide) ?_
      refine va_ialdk (k := 7) hx hb hK hP 1 0 rfl rfl rfl (show ¬ _ from by decide) dX6_need_47 ?_
      refine lv_isub hx hb dX6_need_48 ?_
      obtain ⟨r_10, hc_9, hrun⟩ := mob_s rfl hrun
      refine cRS (ws := []) (As := [.int (0 : Int32), .int ((p1 - ((tw_m t_7) 8)) - ((tw_m t_7) 7))]) ⟨hx, hb, hml, hown, hts⟩ hOK hz hS zP0 (mtX6_greater l D Z hOK _ _ _ hc_9) (kX6_greater hts q2260 rfl rfl ⟨Nat.le_of_ble_eq_true rfl, Nat.le_of_ble_eq_true rfl⟩) rfl hl.1 rfl (lv_room (Nat.le_of_ble_eq_true rfl)) ⟨Nat.le_of_ble_eq_true rfl, Nat.le_of_ble_eq_true rfl⟩ dX6_need_49 ?_
      cases hrun
      exact retW_i hx hb hr hlocks hP hD hS ⟨rfl, rfl⟩ dX6_need_52
    have hrun := mif_n c_8 hrun
    refine lv_iconst (v := (0 : Int32)) hx hb dX6_need_27 (by decide) ?_
    refine lv_goto (tgt := 52) hx hb dX6_need_28 (by decide) ?_
    cases hrun
    exact retW_i hx hb hr hlocks hP hD hS ⟨rfl, rfl⟩ dX6_need_52
  refine lv_if_ne (tgt := 16) hx hb dX6_need_9 (by decide) (fun c_3 => ?_) (fun c_3 => ?_)
  · have hrun := mif_p (bz_nz c_3) hrun
    refine lv_iconst (v := (0 : Int32)) hx hb dX6_need_16 (by decide) ?_
    exact hj_4 false _ _ hP hD hS ls (lv_sub hl [0, 1] rfl) hrun
  have hrun := mif_n (bz_z c_3) hrun
  refine lv_iconst (v := (1 : Int32)) hx hb dX6_need_12 (by decide) ?_
  refine lv_goto (tgt := 17) hx hb dX6_need_13 (by decide) ?_
  exact hj_4 true _ _ hP hD hS ls (lv_sub hl [0, 1] rfl) hrun
def rX6_holes : Room := { frames := 1, cells := 0, slots := 0, locals := 22 }
noncomputable def fX6_holes_L4 (t : Tw) : Nat → Int32 → Int32 → Option (Int32)
  | 0, _, _ => none
  | n + 1, x1_2, x2_3 =>
    if (8 : Int32) ≤ x2_3 then
      some x1_2
    else
      mck ((16 : Int32) + x2_3) 704 <|
      mob (fX6_bits ((tw_m t) (Int32.toNatClampNeg ((16 : Int32) + x2_3)))) fun r_7 =>
      fX6_holes_L4 t n (x1_2 + r_7) (x2_3 + (1 : Int32))
noncomputable def fX6_holes (t : Tw) : Option (Int32) :=
  fX6_holes_L4 t mFU (0 : Int32) (0 : Int32)
theorem kX6_holes {R : Room} {s : State} {args : Array Value} {own : String} {idx mc ms : Nat} {rm : Room} (hts : ∀ w ∈ lw_all, w.before args s = true) (hl : Cond.methodLink own idx yX6_holes ∈ lw_all) (hrc : rm.cells = mc) (hrs : rm.slots = ms) (hR : rm.frames + 1 ≤ R.frames ∧ 8 + (3 + 11) + rm.locals ≤ R.locals) : CallW R s args own RX6 idx yX6_holes cX6_holes 3 (some .int) (ws_ yX6_holes cX6_holes 3 (some .int)) rm mc ms 0 :=
  cwV 0 hts (lw_V hl q2449 qs103 q115 q2450) rfl hrc hrs (by decide +kernel) hR
set_option maxHeartbeats 4000000 in
set_option maxRecDepth 100000 in
theorem mtX6_holes (l : Launch) (D : va_G) (k : Nat → ClassId) (a : Nat → Nat) (Z : zZ) (hOK : zOK D zCl (zTys k) Z) (t : Tw) (r : Int32) (hrun : fX6_holes t = some r) :
    CtR l yX6_holes cX6_holes 3 (some .int) rX6_holes Z D zCl (cT k a t) [.ref (a 0)] (some (.int r)) := by
  refine CtR.of (by decide) (Nat.le_of_ble_eq_true rfl) ?_
  intro p e s m args below meth c hE hP hz ls hl
  obtain ⟨hx, hb, hr, hml, hown, hts, hlocks, hname⟩ := hE
  have hown : s.vm.findClass RX6 = some m.cls := hown
  have hK := hOK.1 _ _ _ hz
  have hl : lv_has ls 3 [(0, .ref (a 0))] := hl
  unfold fX6_holes at hrun
  refine lv_iconst (v := (0 : Int32)) hx hb dX6_holes_0 (by decide) ?_
  refine lv_istore_n (lv' := [(1, .int (0 : Int32)), (0, .ref (a 0))]) hx hb dX6_holes_1 rfl hl (by decide) rfl (fun ls hl => ?_)
  refine lv_iconst (v := (0 : Int32)) hx hb dX6_holes_2 (by decide) ?_
  refine lv_istore_n (lv' := [(2, .int (0 : Int32)), (1, .int (0 : Int32)), (0, .ref (a 0))]) hx hb dX6_holes_3 rfl hl (by decide) rfl (fun ls hl => ?_)
  have hL_1 : ∀ n : Nat, ∀ (x1_2 : Int32) (x2_3 : Int32), ∀ ls : Array Slot, lv_has ls 3 [(0, .ref (a 0)), (1, .int x1_2), (2, .int x2_3)] → fX6_holes_L4 t n x1_2 x2_3 = some r → W p l e rX6_holes s m args below meth c s.heap [] 0 0 (MQ below (QRr (some (.int r))) args s 0 0 (fun _ => False)) (F0 m 4 ls []) := by
    intro n
    induction n with
    | zero =>
      intro x1_2 x2_3 ls hl hrun
      exact nomatch hrun
    | succ n ih =>
      intro x1_2 x2_3 ls hl hrun
      rw [fX6_holes_L4.eq_2] at hrun
      refine lv_iload_n hx hb dX6_holes_4 rfl (lv_at hl 2 rfl) ?_
      refine lv_bipush (v := (8 : Int32)) hx hb dX6_holes_5 (by decide) ?_
      refine lv_icmp_ge (tgt := 31) hx hb dX6_holes_7 (by decide) (fun c_4 => ?_) (fun c_4 => ?_)
      · have hrun := mif_p c_4 hrun
        refine lv_iload_n hx hb dX6_holes_31 rfl (lv_at hl 1 rfl) ?_
        cases hrun
        exact retR_i hx hb hr hlocks rfl dX6_holes_32
      have hrun := mif_n c_4 hrun
      refine lv_iload_n hx hb dX6_holes_10 rfl (lv_at hl 1 rfl) ?_
      refine lv_aload_n hx hb dX6_holes_11 rfl (lv_at hl 0 rfl) ?_
      refine va_get (ci := 0) (v := .ref (a 1)) (C := RX6) (T := TX6) (N := 22) hx hb hts in_X6 hown hK hP 0 rfl rfl 1 (by decide) (hts _ q1903) (fun _ h9 => h9) rfl dX6_holes_12 ?_
      refine lv_bipush (v := (16 : Int32)) hx hb dX6_holes_15 (by decide) ?_
      refine lv_iload_n hx hb dX6_holes_17 rfl (lv_at hl 2 rfl) ?_
      refine lv_iadd hx hb dX6_holes_18 ?_
      obtain ⟨hb_5, hrun⟩ := mck_s rfl hrun
      refine va_iald hx hb hK hP 1 0 rfl rfl hb_5 dX6_holes_19 ?_
      obtain ⟨r_7, hc_6, hrun⟩ := mob_s rfl hrun
      refine cRS (ws := []) (As := [.int ((tw_m t) (Int32.toNatClampNeg ((16 : Int32) + x2_3)))]) ⟨hx, hb, hml, hown, hts⟩ hOK hz va_S.rf zP0 (mtX6_bits l D Z hOK _ _ hc_6) (kX6_bits hts q2148 rfl rfl ⟨Nat.le_of_ble_eq_true rfl, Nat.le_of_ble_eq_true rfl⟩) rfl hl.1 rfl (lv_room (Nat.le_of_ble_eq_true rfl)) ⟨Nat.le_of_ble_eq_true rfl, Nat.le_of_ble_eq_true rfl⟩ dX6_holes_20 ?_
      refine lv_iadd hx hb dX6_holes_23 ?_
      refine lv_istore_n (lv' := [(1, .int (x1_2 + r_7)), (0, .ref (a 0)), (2, .int x2_3)]) hx hb dX6_holes_24 rfl hl (by decide) rfl (fun ls hl => ?_)
      refine lv_iinc (v := (x2_3 + (1 : Int32))) (lv' := [(2, .int (x2_3 + (1 : Int32))), (1, .int (x1_2 + r_7)), (0, .ref (a 0))]) hx hb dX6_holes_25 hl (k := 2) rfl rfl (by decide) rfl (fun ls hl => ?_)
      refine lv_goto (tgt := 4) hx hb dX6_holes_28 (by decide) ?_
      exact ih (x1_2 + r_7) (x2_3 + (1 : Int32)) ls (lv_sub hl [2, 1, 0] rfl) hrun
  exact hL_1 mFU (0 : Int32) (0 : Int32) ls (lv_sub hl [2, 1, 0] rfl) hrun
def rX6_logged : Room := { frames := 0, cells := 0, slots := 0, locals := 0 }
noncomputable def fX6_logged (t : Tw) (p1 : Int32) (p2 : Int32) : Option (Int32) :=
  mck (((64 : Int32) + ((4 : Int32) * p1)) + p2) 704 <|
  some ((tw_m t) (Int32.toNatClampNeg (((64 : Int32) + ((4 : Int32) * p1)) + p2)))
theorem kX6_logged {R : Room} {s : State} {args : Array Value} {own : String} {idx mc ms : Nat} {rm : Room} (hts : ∀ w ∈ lw_all, w.before args s = true) (hl : Cond.methodLink own idx yX6_logged ∈ lw_all) (hrc : rm.cells = mc) (hrs : rm.slots = ms) (hR : rm.frames + 1 ≤ R.frames ∧ 8 + (3 + 11) + rm.locals ≤ R.locals) : CallW R s args own RX6 idx yX6_logged cX6_logged 3 (some .int) (ws_ yX6_logged cX6_logged 3 (some .int)) rm mc ms 2 :=
  cwV 2 hts (lw_V hl q2461 qs104 q115 q2462) rfl hrc hrs (by decide +kernel) hR
set_option maxHeartbeats 4000000 in
set_option maxRecDepth 100000 in
theorem mtX6_logged (l : Launch) (D : va_G) (k : Nat → ClassId) (a : Nat → Nat) (Z : zZ) (hOK : zOK D zCl (zTys k) Z) (t : Tw) (p1 : Int32) (p2 : Int32) (r : Int32) (hrun : fX6_logged t p1 p2 = some r) :
    CtR l yX6_logged cX6_logged 3 (some .int) rX6_logged Z D zCl (cT k a t) [.ref (a 0), .int p1, .int p2] (some (.int r)) := by
  refine CtR.of (by decide) (Nat.le_of_ble_eq_true rfl) ?_
  intro p e s m args below meth c hE hP hz ls hl
  obtain ⟨hx, hb, hr, hml, hown, hts, hlocks, hname⟩ := hE
  have hown : s.vm.findClass RX6 = some m.cls := hown
  have hK := hOK.1 _ _ _ hz
  have hl : lv_has ls 3 [(0, .ref (a 0)), (1, .int p1), (2, .int p2)] := hl
  unfold fX6_logged at hrun
  refine lv_aload_n hx hb dX6_logged_0 rfl (lv_at hl 0 rfl) ?_
  refine va_get (ci := 0) (v := .ref (a 1)) (C := RX6) (T := TX6) (N := 22) hx hb hts in_X6 hown hK hP 0 rfl rfl 1 (by decide) (hts _ q1903) (fun _ h9 => h9) rfl dX6_logged_1 ?_
  refine lv_bipush (v := (64 : Int32)) hx hb dX6_logged_4 (by decide) ?_
  refine lv_iconst (v := (4 : Int32)) hx hb dX6_logged_6 (by decide) ?_
  refine lv_iload_n hx hb dX6_logged_7 rfl (lv_at hl 1 rfl) ?_
  refine lv_imul hx hb dX6_logged_8 ?_
  refine lv_iadd hx hb dX6_logged_9 ?_
  refine lv_iload_n hx hb dX6_logged_10 rfl (lv_at hl 2 rfl) ?_
  refine lv_iadd hx hb dX6_logged_11 ?_
  obtain ⟨hb_1, hrun⟩ := mck_s rfl hrun
  refine va_iald hx hb hK hP 1 0 rfl rfl hb_1 dX6_logged_12 ?_
  cases hrun
  exact retR_i hx hb hr hlocks rfl dX6_logged_13
