/-! walks: X6_mutual, X6_plain, X6_houseLine -/
def rX6_mutual : Room := { frames := 4, cells := 0, slots := 0, locals := 89 }
noncomputable def fX6_mutual_L23 (t_1 : Tw) (K_8 : Int32 → Option (Int32 × Tw)) (x2_4 : Int32) : Nat → Int32 → Int32 → Option (Int32 × Tw)
  | 0, _, _ => none
  | n + 1, x1_10, x3_11 =>
    if ((tw_m t_1) 3) ≤ x3_11 then
      K_8 x1_10
    else
      mob (fX6_isHere t_1 x2_4) fun r_14 =>
      if r_14 = true then
        mob (fX6_isHere t_1 x3_11) fun r_17 =>
        if r_17 = true then
          mob (fX6_of t_1 x3_11 (0 : Int32)) fun r_20 =>
          mob (fX6_sees t_1 x2_4 r_20) fun r_22 =>
          if r_22 = true then
            mob (fX6_of t_1 x2_4 (0 : Int32)) fun r_25 =>
            mob (fX6_sees t_1 x3_11 r_25) fun r_27 =>
            if r_27 = true then
              fX6_mutual_L23 t_1 K_8 x2_4 n (x1_10 + (1 : Int32)) (x3_11 + (1 : Int32))
            else
              fX6_mutual_L23 t_1 K_8 x2_4 n (x1_10 + (0 : Int32)) (x3_11 + (1 : Int32))
          else
            fX6_mutual_L23 t_1 K_8 x2_4 n (x1_10 + (0 : Int32)) (x3_11 + (1 : Int32))
        else
          fX6_mutual_L23 t_1 K_8 x2_4 n (x1_10 + (0 : Int32)) (x3_11 + (1 : Int32))
      else
        fX6_mutual_L23 t_1 K_8 x2_4 n (x1_10 + (0 : Int32)) (x3_11 + (1 : Int32))
noncomputable def fX6_mutual_L9 (t_1 : Tw) : Nat → Int32 → Int32 → Option (Int32 × Tw)
  | 0, _, _ => none
  | n + 1, x1_3, x2_4 =>
    if ((tw_m t_1) 3) ≤ x2_4 then
      some (x1_3, t_1)
    else
      mjn (fun (x1_7 : Int32) =>
      fX6_mutual_L9 t_1 n x1_7 (x2_4 + (1 : Int32))) fun K_8 =>
      fX6_mutual_L23 t_1 K_8 x2_4 mFU x1_3 (x2_4 + (1 : Int32))
noncomputable def fX6_mutual (t : Tw) : Option (Int32 × Tw) :=
  mlt (tw_s_thrown t (0 : Int32)) fun t_1 =>
  fX6_mutual_L9 t_1 mFU (0 : Int32) (0 : Int32)
theorem kX6_mutual {R : Room} {s : State} {args : Array Value} {own : String} {idx mc ms : Nat} {rm : Room} (hts : ∀ w ∈ lw_all, w.before args s = true) (hl : Cond.methodLink own idx yX6_mutual ∈ lw_all) (hrc : rm.cells = mc) (hrs : rm.slots = ms) (hR : rm.frames + 1 ≤ R.frames ∧ 8 + (4 + 11) + rm.locals ≤ R.locals) : CallW R s args own RX6 idx yX6_mutual cX6_mutual 4 (some .int) (ws_ yX6_mutual cX6_mutual 4 (some .int)) rm mc ms 0 :=
  cwV 0 hts (lw_V hl q2440 q2441 q115 q2442) rfl hrc hrs (by decide +kernel) hR
set_option maxHeartbeats 4000000 in
set_option maxRecDepth 100000 in
theorem mtX6_mutual (l : Launch) (D : va_G) (k : Nat → ClassId) (a : Nat → Nat) (Z : zZ) (hOK : zOK D zCl (zTys k) Z) (t : Tw) (r : Int32) (tt : Tw) (hrun : fX6_mutual t = some (r, tt)) :
    CtW l yX6_mutual cX6_mutual 4 (some .int) rX6_mutual Z D zCl (cT k a t) [.ref (a 0)] (fun r' w' => r' = (some (.int r)) ∧ w' = cT k a tt) 0 0 := by
  refine CtW.of (by decide) (Nat.le_of_ble_eq_true rfl) ?_
  intro p e s m args below meth c A hE hA hP hD hS hz ls hl
  obtain ⟨hx, hb, hr, hml, hown, hts, hlocks, hname⟩ := hE
  have hown : s.vm.findClass RX6 = some m.cls := hown
  have hK := hOK.1 _ _ _ hz
  have hl : lv_has ls 4 [(0, .ref (a 0))] := hl
  unfold fX6_mutual at hrun
  refine lv_aload_n hx hb dX6_mutual_0 rfl (lv_at hl 0 rfl) ?_
  refine lv_iconst (v := (0 : Int32)) hx hb dX6_mutual_1 (by decide) ?_
  refine va_put (ci := 0) (v := .int (0 : Int32)) (ty := tyX6 0) (C := RX6) (T := TX6) (N := 22) hx hb hts in_X6 tyX6 tyX6_ok nmX6 hown hK hP hD hS 0 rfl rfl 0 (by decide) (hts _ q1902) (fun _ h9 => h9) rfl (tyX6_ok 0 (by decide)) rfl rfl (Nat.le_of_ble_eq_true rfl) dX6_mutual_2 (fun H locs hP hD hS => ?_)
  have hP : va_P D zCl (cT k a (tw_s_thrown t (0 : Int32))) H := hP
  have hD : va_D A (cT k a (tw_s_thrown t (0 : Int32))) := hD
  obtain ⟨t_1, et_1⟩ : ∃ z : Tw, z = (tw_s_thrown t (0 : Int32)) := ⟨_, rfl⟩
  rw [← et_1] at hP hD
  have hrun := mlt_s hrun t_1 et_1
  refine lv_iconst (v := (0 : Int32)) hx hb dX6_mutual_5 (by decide) ?_
  refine lv_istore_n (lv' := [(1, .int (0 : Int32)), (0, .ref (a 0))]) hx hb dX6_mutual_6 rfl hl (by decide) rfl (fun ls hl => ?_)
  refine lv_iconst (v := (0 : Int32)) hx hb dX6_mutual_7 (by decide) ?_
  refine lv_istore_n (lv' := [(2, .int (0 : Int32)), (1, .int (0 : Int32)), (0, .ref (a 0))]) hx hb dX6_mutual_8 rfl hl (by decide) rfl (fun ls hl => ?_)
  have hL_2 : ∀ n : Nat, ∀ (x1_3 : Int32) (x2_4 : Int32), ∀ (H : Heap) (locs : List Loc), va_P D zCl (cT k a t_1) H → va_D A (cT k a t_1) → va_S A s.heap H locs → ∀ ls : Array Slot, lv_has ls 4 [(0, .ref (a 0)), (1, .int x1_3), (2, .int x2_4)] → fX6_mutual_L9 t_1 n x1_3 x2_4 = some (r, tt) → W p l e rX6_mutual s m args below meth c H locs 0 0 (MQ below (QWr (fun r' w' => r' = (some (.int r)) ∧ w' = cT k a tt) D zCl A) args s 0 0 A) (F0 m 9 ls []) := by
    intro n
    induction n with
    | zero =>
      intro x1_3 x2_4 H locs hP hD hS ls hl hrun
      exact nomatch hrun
    | succ n ih =>
      intro x1_3 x2_4 H locs hP hD hS ls hl hrun
      rw [fX6_mutual_L9.eq_2] at hrun
      refine lv_iload_n hx hb dX6_mutual_9 rfl (lv_at hl 2 rfl) ?_
      refine lv_aload_n hx hb dX6_mutual_10 rfl (lv_at hl 0 rfl) ?_
      refine va_get (ci := 0) (v := .ref (a 1)) (C := RX6) (T := TX6) (N := 22) hx hb hts in_X6 hown hK hP 0 rfl rfl 1 (by decide) (hts _ q1903) (fun _ h9 => h9) rfl dX6_mutual_11 ?_
      refine lv_iconst (v := (3 : Int32)) hx hb dX6_mutual_14 (by decide) ?_
      refine va_ialdk (k := 3) hx hb hK hP 1 0 rfl rfl rfl (show ¬ _ from by decide) dX6_mutual_15 ?_
      refine lv_icmp_ge (tgt := 97) hx hb dX6_mutual_16 (by decide) (fun c_5 => ?_) (fun c_5 => ?_)
      · have hrun := mif_p c_5 hrun
        refine lv_iload_n hx hb dX6_mutual_97 rfl (lv_at hl 1 rfl) ?_
        cases hrun
        exact retW_i hx hb hr hlocks hP hD hS ⟨rfl, rfl⟩ dX6_mutual_98
      have hrun := mif_n c_5 hrun
      refine lv_iload_n hx hb dX6_mutual_19 rfl (lv_at hl 2 rfl) ?_
      refine lv_iconst (v := (1 : Int32)) hx hb dX6_mutual_20 (by decide) ?_
      refine lv_iadd hx hb dX6_mutual_21 ?_
      refine lv_istore_n (lv' := [(3, .int (x2_4 + (1 : Int32))), (0, .ref (a 0)), (1, .int x1_3), (2, .int x2_4)]) hx hb dX6_mutual_22 rfl hl (by decide) rfl (fun ls hl => ?_)
      obtain ⟨K_8, hK_8, hrun⟩ := mjn_s hrun
      have hj_6 : ∀ (x1_7 : Int32), ∀ (H : Heap) (locs : List Loc), va_P D zCl (cT k a t_1) H → va_D A (cT k a t_1) → va_S A s.heap H locs → ∀ ls : Array Slot, lv_has ls 4 [(0, .ref (a 0)), (1, .int x1_7), (2, .int x2_4)] → K_8 x1_7 = some (r, tt) → W p l e rX6_mutual s m args below meth c H locs 0 0 (MQ below (QWr (fun r' w' => r' = (some (.int r)) ∧ w' = cT k a tt) D zCl A) args s 0 0 A) (F0 m 91 ls []) := by
        intro x1_7 H locs hP hD hS ls hl hrun
        rw [hK_8] at hrun
        refine lv_iinc (v := (x2_4 + (1 : Int32))) (lv' := [(2, .int (x2_4 + (1 : Int32))), (0, .ref (a 0)), (1, .int x1_7)]) hx hb dX6_mutual_91 hl (k := 2) rfl rfl (by decide) rfl (fun ls hl => ?_)
        refine lv_goto (tgt := 9) hx hb dX6_mutual_94 (by decide) ?_
        exact ih x1_7 (x2_4 + (1 : Int32)) _ _ hP hD hS ls (lv_sub hl [1, 2, 0] rfl) hrun
      have hL_9 : ∀ n : Nat, ∀ (x1_10 : Int32) (x3_11 : Int32), ∀ (H : Heap) (locs : List Loc), va_P D zCl (cT k a t_1) H → va_D A (cT k a t_1) → va_S A s.heap H locs → ∀ ls : Array Slot, lv_has ls 4 [(0, .ref (a 0)), (1, .int x1_10), (2, .int x2_4), (3, .int x3_11)] → fX6_mutual_L23 t_1 K_8 x2_4 n x1_10 x3_11 = some (r, tt) → W p l e rX6_mutual s m args below meth c H locs 0 0 (MQ below (QWr (fun r' w' => r' = (some (.int r)) ∧ w' = cT k a tt) D zCl A) args s 0 0 A) (F0 m 23 ls []) := by
        intro n
        induction n with
        | zero =>
          intro x1_10 x3_11 H locs hP hD hS ls hl hrun
          exact nomatch hrun
        | succ n ih =>
          intro x1_10 x3_11 H locs hP hD hS ls hl hrun
          rw [fX6_mutual_L23.eq_2] at hrun
          refine lv_iload_n hx hb dX6_mutual_23 rfl (lv_at hl 3 rfl) ?_
          refine lv_aload_n hx hb dX6_mutual_24 rfl (lv_at hl 0 rfl) ?_
          refine va_get (ci := 0) (v := .ref (a 1)) (C := RX6) (T := TX6) (N := 22) hx hb hts in_X6 hown hK hP 0 rfl rfl 1 (by decide) (hts _ q1903) (fun _ h9 => h9) rfl dX6_mutual_25 ?_
          refine lv_iconst (v := (3 : Int32)) hx hb dX6_mutual_28 (by decide) ?_
          refine va_ialdk (k := 3) hx hb hK hP 1 0 rfl rfl rfl (show ¬ _ from by decide) dX6_mutual_29 ?_
          refine lv_icmp_ge (tgt := 91) hx hb dX6_mutual_30 (by decide) (fun c_12 => ?_) (fun c_12 => ?_)
          · have hrun := mif_p c_12 hrun
            exact hj_6 x1_10 _ _ hP hD hS ls (lv_sub hl [0, 1, 2] rfl) hrun
          have hrun := mif_n c_12 hrun
          refine lv_iload_n hx hb dX6_mutual_33 rfl (lv_at hl 1 rfl) ?_
          refine lv_aload_n hx hb dX6_mutual_34 rfl (lv_at hl 0 rfl) ?_
          refine lv_iload_n hx hb dX6_mutual_35 rfl (lv_at hl 2 rfl) ?_
          obtain ⟨r_14, hc_13, hrun⟩ := mob_s rfl hrun
          refine cRV (As := [.int x2_4]) (ci := 0) ⟨hx, hb, hml, hown, hts⟩ hOK hz hS hP (mtX6_isHere l D k a Z hOK _ _ _ hc_13) (kX6_isHere hts q2155 rfl rfl ⟨Nat.le_of_ble_eq_true rfl, Nat.le_of_ble_eq_true rfl⟩) 0 rfl rfl rfl hl.1 rfl (lv_room (Nat.le_of_ble_eq_true rfl)) ⟨Nat.le_of_ble_eq_true rfl, Nat.le_of_ble_eq_true rfl⟩ dX6_mutual_36 ?_
          refine lv_if_eq (tgt := 82) hx hb dX6_mutual_39 (by decide) (fun c_15 => ?_) (fun c_15 => ?_)
          · have hrun := mif_n (bz_z c_15) hrun
            refine lv_iconst (v := (0 : Int32)) hx hb dX6_mutual_82 (by decide) ?_
            refine lv_iadd hx hb dX6_mutual_83 ?_
            refine lv_istore_n (lv' := [(1, .int (x1_10 + (0 : Int32))), (0, .ref (a 0)), (2, .int x2_4), (3, .int x3_11)]) hx hb dX6_mutual_84 rfl hl (by decide) rfl (fun ls hl => ?_)
            refine lv_iinc (v := (x3_11 + (1 : Int32))) (lv' := [(3, .int (x3_11 + (1 : Int32))), (1, .int (x1_10 + (0 : Int32))), (0, .ref (a 0)), (2, .int x2_4)]) hx hb dX6_mutual_85 hl (k := 3) rfl rfl (by decide) rfl (fun ls hl => ?_)
            refine lv_goto (tgt := 23) hx hb dX6_mutual_88 (by decide) ?_
            exact ih (x1_10 + (0 : Int32)) (x3_11 + (1 : Int32)) _ _ hP hD hS ls (lv_sub hl [2, 1, 3, 0] rfl) hrun
          have hrun := mif_p (bz_nz c_15) hrun
          refine lv_aload_n hx hb dX6_mutual_42 rfl (lv_at hl 0 rfl) ?_
          refine lv_iload_n hx hb dX6_mutual_43 rfl (lv_at hl 3 rfl) ?_
          obtain ⟨r_17, hc_16, hrun⟩ := mob_s rfl hrun
          refine cRV (As := [.int x3_11]) (ci := 0) ⟨hx, hb, hml, hown, hts⟩ hOK hz hS hP (mtX6_isHere l D k a Z hOK _ _ _ hc_16) (kX6_isHere hts q2155 rfl rfl ⟨Nat.le_of_ble_eq_true rfl, Nat.le_of_ble_eq_true rfl⟩) 0 rfl rfl rfl hl.1 rfl (lv_room (Nat.le_of_ble_eq_true rfl)) ⟨Nat.le_of_ble_eq_true rfl, Nat.le_of_ble_eq_true rfl⟩ dX6_mutual_44 ?_
          refine lv_if_eq (tgt := 82) hx hb dX6_mutual_47 (by decide) (fun c_18 => ?_) (fun c_18 => ?_)
          · have hrun := mif_n (bz_z c_18) hrun
            refine lv_iconst (v := (0 : Int32)) hx hb dX6_mutual_82 (by decide) ?_
            refine lv_iadd hx hb dX6_mutual_83 ?_
            refine lv_istore_n (lv' := [(1, .int (x1_10 + (0 : Int32))), (0, .ref (a 0)), (2, .int x2_4), (3, .int x3_11)]) hx hb dX6_mutual_84 rfl hl (by decide) rfl (fun ls hl => ?_)
            refine lv_iinc (v := (x3_11 + (1 : Int32))) (lv' := [(3, .int (x3_11 + (1 : Int32))), (1, .int (x1_10 + (0 : Int32))), (0, .ref (a 0)), (2, .int x2_4)]) hx hb dX6_mutual_85 hl (k := 3) rfl rfl (by decide) rfl (fun ls hl => ?_)
            refine lv_goto (tgt := 23) hx hb dX6_mutual_88 (by decide) ?_
            exact ih (x1_10 + (0 : Int32)) (x3_11 + (1 : Int32)) _ _ hP hD hS ls (lv_sub hl [2, 1, 3, 0] rfl) hrun
          have hrun := mif_p (bz_nz c_18) hrun
          refine lv_aload_n hx hb dX6_mutual_50 rfl (lv_at hl 0 rfl) ?_
          refine lv_iload_n hx hb dX6_mutual_51 rfl (lv_at hl 2 rfl) ?_
          refine lv_aload_n hx hb dX6_mutual_52 rfl (lv_at hl 0 rfl) ?_
          refine lv_iload_n hx hb dX6_mutual_53 rfl (lv_at hl 3 rfl) ?_
          refine lv_iconst (v := (0 : Int32)) hx hb dX6_mutual_54 (by decide) ?_
          obtain ⟨r_20, hc_19, hrun⟩ := mob_s rfl hrun
          refine cRV (As := [.int x3_11, .int (0 : Int32)]) (ci := 0) ⟨hx, hb, hml, hown, hts⟩ hOK hz hS hP (mtX6_of l D k a Z hOK _ _ _ _ hc_19) (kX6_of hts q2136 rfl rfl ⟨Nat.le_of_ble_eq_true rfl, Nat.le_of_ble_eq_true rfl⟩) 0 rfl rfl rfl hl.1 rfl (lv_room (Nat.le_of_ble_eq_true rfl)) ⟨Nat.le_of_ble_eq_true rfl, Nat.le_of_ble_eq_true rfl⟩ dX6_mutual_55 ?_
          obtain ⟨r_22, hc_21, hrun⟩ := mob_s rfl hrun
          refine cRV (As := [.int x2_4, .int r_20]) (ci := 0) ⟨hx, hb, hml, hown, hts⟩ hOK hz hS hP (mtX6_sees l D k a Z hOK _ _ _ _ hc_21) (kX6_sees hts q2163 rfl rfl ⟨Nat.le_of_ble_eq_true rfl, Nat.le_of_ble_eq_true rfl⟩) 0 rfl rfl rfl hl.1 rfl (lv_room (Nat.le_of_ble_eq_true rfl)) ⟨Nat.le_of_ble_eq_true rfl, Nat.le_of_ble_eq_true rfl⟩ dX6_mutual_58 ?_
          refine lv_if_eq (tgt := 82) hx hb dX6_mutual_61 (by decide) (fun c_23 => ?_) (fun c_23 => ?_)
          · have hrun := mif_n (bz_z c_23) hrun
            refine lv_iconst (v := (0 : Int32)) hx hb dX6_mutual_82 (by decide) ?_
            refine lv_iadd hx hb dX6_mutual_83 ?_
            refine lv_istore_n (lv' := [(1, .int (x1_10 + (0 : Int32))), (0, .ref (a 0)), (2, .int x2_4), (3, .int x3_11)]) hx hb dX6_mutual_84 rfl hl (by decide) rfl (fun ls hl => ?_)
            refine lv_iinc (v := (x3_11 + (1 : Int32))) (lv' := [(3, .int (x3_11 + (1 : Int32))), (1, .int (x1_10 + (0 : Int32))), (0, .ref (a 0)), (2, .int x2_4)]) hx hb dX6_mutual_85 hl (k := 3) rfl rfl (by decide) rfl (fun ls hl => ?_)
            refine lv_goto (tgt := 23) hx hb dX6_mutual_88 (by decide) ?_
            exact ih (x1_10 + (0 : Int32)) (x3_11 + (1 : Int32)) _ _ hP hD hS ls (lv_sub hl [2, 1, 3, 0] rfl) hrun
          have hrun := mif_p (bz_nz c_23) hrun
          refine lv_aload_n hx hb dX6_mutual_64 rfl (lv_at hl 0 rfl) ?_
          refine lv_iload_n hx hb dX6_mutual_65 rfl (lv_at hl 3 rfl) ?_
          refine lv_aload_n hx hb dX6_mutual_66 rfl (lv_at hl 0 rfl) ?_
          refine lv_iload_n hx hb dX6_mutual_67 rfl (lv_at hl 2 rfl) ?_
          refine lv_iconst (v := (0 : Int32)) hx hb dX6_mutual_68 (by decide) ?_
          obtain ⟨r_25, hc_24, hrun⟩ := mob_s rfl hrun
          refine cRV (As := [.int x2_4, .int (0 : Int32)]) (ci := 0) ⟨hx, hb, hml, hown, hts⟩ hOK hz hS hP (mtX6_of l D k a Z hOK _ _ _ _ hc_24) (kX6_of hts q2136 rfl rfl ⟨Nat.le_of_ble_eq_true rfl, Nat.le_of_ble_eq_true rfl⟩) 0 rfl rfl rfl hl.1 rfl (lv_room (Nat.le_of_ble_eq_true rfl)) ⟨Nat.le_of_ble_eq_true rfl, Nat.le_of_ble_eq_true rfl⟩ dX6_mutual_69 ?_
          obtain ⟨r_27, hc_26, hrun⟩ := mob_s rfl hrun
          refine cRV (As := [.int x3_11, .int r_25]) (ci := 0) ⟨hx, hb, hml, hown, hts⟩ hOK hz hS hP (mtX6_sees l D k a Z hOK _ _ _ _ hc_26) (kX6_sees hts q2163 rfl rfl ⟨Nat.le_of_ble_eq_true rfl, Nat.le_of_ble_eq_true rfl⟩) 0 rfl rfl rfl hl.1 rfl (lv_room (Nat.le_of_ble_eq_true rfl)) ⟨Nat.le_of_ble_eq_true rfl, Nat.le_of_ble_eq_true rfl⟩ dX6_mutual_72 ?_
          refine lv_if_eq (tgt := 82) hx hb dX6_mutual_75 (by decide) (fun c_28 => ?_) (fun c_28 => ?_)
          · have hrun := mif_n (bz_z c_28) hrun
            refine lv_iconst (v := (0 : Int32)) hx hb dX6_mutual_82 (by decide) ?_
            refine lv_iadd hx hb dX6_mutual_83 ?_
            refine lv_istore_n (lv' := [(1, .int (x1_10 + (0 : Int32))), (0, .ref (a 0)), (2, .int x2_4), (3, .int x3_11)]) hx hb dX6_mutual_84 rfl hl (by decide) rfl (fun ls hl => ?_)
            refine lv_iinc (v := (x3_11 + (1 : Int32))) (lv' := [(3, .int (x3_11 + (1 : Int32))), (1, .int (x1_10 + (0 : Int32))), (0, .ref (a 0)), (2, .int x2_4)]) hx hb dX6_mutual_85 hl (k := 3) rfl rfl (by decide) rfl (fun ls hl => ?_)
            refine lv_goto (tgt := 23) hx hb dX6_mutual_88 (by decide) ?_
            exact ih (x1_10 + (0 : Int32)) (x3_11 + (1 : Int32)) _ _ hP hD hS ls (lv_sub hl [2, 1, 3, 0] rfl) hrun
          have hrun := mif_p (bz_nz c_28) hrun
          refine lv_iconst (v := (1 : Int32)) hx hb dX6_mutual_78 (by decide) ?_
          refine lv_goto (tgt := 83) hx hb dX6_mutual_79 (by decide) ?_
          refine lv_iadd hx hb dX6_mutual_83 ?_
          refine lv_istore_n (lv' := [(1, .int (x1_10 + (1 : Int32))), (0, .ref (a 0)), (2, .int x2_4), (3, .int x3_11)]) hx hb dX6_mutual_84 rfl hl (by decide) rfl (fun ls hl => ?_)
          refine lv_iinc (v := (x3_11 + (1 : Int32))) (lv' := [(3, .int (x3_11 + (1 : Int32))), (1, .int (x1_10 + (1 : Int32))), (0, .ref (a 0)), (2, .int x2_4)]) hx hb dX6_mutual_85 hl (k := 3) rfl rfl (by decide) rfl (fun ls hl => ?_)
          refine lv_goto (tgt := 23) hx hb dX6_mutual_88 (by decide) ?_
          exact ih (x1_10 + (1 : Int32)) (x3_11 + (1 : Int32)) _ _ hP hD hS ls (lv_sub hl [2, 1, 3, 0] rfl) hrun
      exact hL_9 mFU x1_3 (x2_4 + (1 : Int32)) _ _ hP hD hS ls (lv_sub hl [1, 2, 3, 0] rfl) hrun
  exact hL_2 mFU (0 : Int32) (0 : Int32) _ _ hP hD hS ls (lv_sub hl [2, 1, 0] rfl) hrun
def rX6_plain : Room := { frames := 7, cells := 0, slots := 0, locals := 150 }
noncomputable def fX6_plain (t : Tw) : Option (Bool × Tw) :=
  mo2 (fX6_has t 12) fun r_3 t_2 =>
  if r_3 = true then
    some ((tw_hasKey t_2), t_2)
  else
    mo2 (fX6_has t_2 16) fun r_7 t_6 =>
    if r_7 = true then
      some ((tw_isEve t_6), t_6)
    else
      mo2 (fX6_sum t_6) fun r_11 t_10 =>
      if (tw_fault t_10) = (-1 : Int32) then
        mo2 (fX6_isSign t_10 (60 : Int32)) fun r_15 t_14 =>
        if r_15 = true then
          mlt (tw_s_at_ t_14 ((tw_at_ t_14) + (1 : Int32))) fun t_17 =>
          mo2 (fX6_sum t_17) fun r_20 t_19 =>
          if r_15 = true then
            if r_20 ≤ r_11 then
              some (false, t_19)
            else
              some (true, t_19)
          else
            if r_11 ≤ r_20 then
              some (false, t_19)
            else
              some (true, t_19)
        else
          mo2 (fX6_isSign t_14 (62 : Int32)) fun r_26 t_25 =>
          if r_26 = true then
            mlt (tw_s_at_ t_25 ((tw_at_ t_25) + (1 : Int32))) fun t_28 =>
            mo2 (fX6_sum t_28) fun r_31 t_30 =>
            if r_15 = true then
              if r_31 ≤ r_11 then
                some (false, t_30)
              else
                some (true, t_30)
            else
              if r_11 ≤ r_31 then
                some (false, t_30)
              else
                some (true, t_30)
          else
            mob (fX6_wrong t_25 (tw_at_ t_25)) fun t_36 =>
            some (false, t_36)
      else
        some (false, t_10)
theorem kX6_plain {R : Room} {s : State} {args : Array Value} {own : String} {idx mc ms : Nat} {rm : Room} (hts : ∀ w ∈ lw_all, w.before args s = true) (hl : Cond.methodLink own idx yX6_plain ∈ lw_all) (hrc : rm.cells = mc) (hrs : rm.slots = ms) (hR : rm.frames + 1 ≤ R.frames ∧ 8 + (4 + 11) + rm.locals ≤ R.locals) : CallW R s args own RX6 idx yX6_plain cX6_plain 4 (some .boolean) (ws_ yX6_plain cX6_plain 4 (some .boolean)) rm mc ms 0 :=
  cwV 0 hts (lw_V hl q2062 qs63 q115 q2063) rfl hrc hrs (by decide +kernel) hR
set_option maxHeartbeats 4000000 in
set_option maxRecDepth 100000 in
theorem mtX6_plain (l : Launch) (D : va_G) (k : Nat → ClassId) (a : Nat → Nat) (Z : zZ) (hOK : zOK D zCl (zTys k) Z) {adK adV : Nat → Nat} (hStr : zStr Z adK adV) (t : Tw) (r : Bool) (tt : Tw) (hrun : fX6_plain t = some (r, tt)) :
    CtW l yX6_plain cX6_plain 4 (some .boolean) rX6_plain Z D zCl (cT k a t) [.ref (a 0)] (fun r' w' => r' = (some (.int (bz r))) ∧ w' = cT k a tt) 0 0 := by
  refine CtW.of (by decide) (Nat.le_of_ble_eq_true rfl) ?_
  intro p e s m args below meth c A hE hA hP hD hS hz ls hl
  obtain ⟨hx, hb, hr, hml, hown, hts, hlocks, hname⟩ := hE
  have hown : s.vm.findClass RX6 = some m.cls := hown
  have hK := hOK.1 _ _ _ hz
  have hl : lv_has ls 4 [(0, .ref (a 0))] := hl
  unfold fX6_plain at hrun
  refine lv_aload_n hx hb dX6_plain_0 rfl (lv_at hl 0 rfl) ?_
  refine va_ldcS hx hb hown (sr23 hStr hz) dX6_plain_1 ?_
  obtain ⟨r_3, t_2, hc_1, hrun⟩ := mo2_s rfl hrun
  refine cWV00 (As := [.ref (adK 12)]) (ci := 0) ⟨hx, hb, hml, hown, hts⟩ hOK hz hS hA hP hD (mtX6_has l D k a Z hOK hStr _ _ _ _ hc_1) (kX6_has hts q2017 rfl rfl ⟨Nat.le_of_ble_eq_true rfl, Nat.le_of_ble_eq_true rfl⟩) 0 rfl rfl rfl hl.1 rfl (lv_room (Nat.le_of_ble_eq_true rfl)) ⟨Nat.le_of_ble_eq_true rfl, Nat.le_of_ble_eq_true rfl⟩ dX6_plain_3 (fun r_ w_ H locs hq hP hD hS => ?_)
  obtain ⟨rfl, rfl⟩ := hq
  refine lv_if_eq (tgt := 14) hx hb dX6_plain_6 (by decide) (fun c_4 => ?_) (fun c_4 => ?_)
  · have hrun := mif_n (bz_z c_4) hrun
    refine lv_aload_n hx hb dX6_plain_14 rfl (lv_at hl 0 rfl) ?_
    refine va_ldcS hx hb hown (sr24 hStr hz) dX6_plain_15 ?_
    obtain ⟨r_7, t_6, hc_5, hrun⟩ := mo2_s rfl hrun
    refine cWV00 (As := [.ref (adK 16)]) (ci := 0) ⟨hx, hb, hml, hown, hts⟩ hOK hz hS hA hP hD (mtX6_has l D k a Z hOK hStr _ _ _ _ hc_5) (kX6_has hts q2017 rfl rfl ⟨Nat.le_of_ble_eq_true rfl, Nat.le_of_ble_eq_true rfl⟩) 0 rfl rfl rfl hl.1 rfl (lv_room (Nat.le_of_ble_eq_true rfl)) ⟨Nat.le_of_ble_eq_true rfl, Nat.le_of_ble_eq_true rfl⟩ dX6_plain_17 (fun r_ w_ H locs hq hP hD hS => ?_)
    obtain ⟨rfl, rfl⟩ := hq
    refine lv_if_eq (tgt := 28) hx hb dX6_plain_20 (by decide) (fun c_8 => ?_) (fun c_8 => ?_)
    · have hrun := mif_n (bz_z c_8) hrun
      refine lv_aload_n hx hb dX6_plain_28 rfl (lv_at hl 0 rfl) ?_
      obtain ⟨r_11, t_10, hc_9, hrun⟩ := mo2_s rfl hrun
      refine cWV00 (As := []) (ci := 0) ⟨hx, hb, hml, hown, hts⟩ hOK hz hS hA hP hD (mtX6_sum l D k a Z hOK hStr _ _ _ hc_9) (kX6_sum hts q2066 rfl rfl ⟨Nat.le_of_ble_eq_true rfl, Nat.le_of_ble_eq_true rfl⟩) 0 rfl rfl rfl hl.1 rfl (lv_room (Nat.le_of_ble_eq_true rfl)) ⟨Nat.le_of_ble_eq_true rfl, Nat.le_of_ble_eq_true rfl⟩ dX6_plain_29 (fun r_ w_ H locs hq hP hD hS => ?_)
      obtain ⟨rfl, rfl⟩ := hq
      refine lv_istore_n (lv' := [(1, .int r_11), (0, .ref (a 0))]) hx hb dX6_plain_32 rfl hl (by decide) rfl (fun ls hl => ?_)
      refine lv_aload_n hx hb dX6_plain_33 rfl (lv_at hl 1 rfl) ?_
      refine va_get (ci := 0) (v := .int (tw_fault t_10)) (C := RX6) (T := TX6) (N := 22) hx hb hts in_X6 hown hK hP 0 rfl rfl 12 (by decide) (hts _ q1914) (fun _ h9 => h9) rfl dX6_plain_34 ?_
      refine lv_iconst (v := (-1 : Int32)) hx hb dX6_plain_37 (by decide) ?_
      refine lv_icmp_eq (tgt := 43) hx hb dX6_plain_38 (by decide) (fun c_12 => ?_) (fun c_12 => ?_)
      · have hrun := mif_p c_12 hrun
        refine lv_aload_n hx hb dX6_plain_43 rfl (lv_at hl 1 rfl) ?_
        refine lv_bipush (v := (60 : Int32)) hx hb dX6_plain_44 (by decide) ?_
        obtain ⟨r_15, t_14, hc_13, hrun⟩ := mo2_s rfl hrun
        refine cWV00 (As := [.int (60 : Int32)]) (ci := 0) ⟨hx, hb, hml, hown, hts⟩ hOK hz hS hA hP hD (mtX6_isSign l D k a Z hOK _ _ _ _ hc_13) (kX6_isSign hts q2056 rfl rfl ⟨Nat.le_of_ble_eq_true rfl, Nat.le_of_ble_eq_true rfl⟩) 0 rfl rfl rfl hl.1 rfl (lv_room (Nat.le_of_ble_eq_true rfl)) ⟨Nat.le_of_ble_eq_true rfl, Nat.le_of_ble_eq_true rfl⟩ dX6_plain_46 (fun r_ w_ H locs hq hP hD hS => ?_)
        obtain ⟨rfl, rfl⟩ := hq
        refine lv_istore_n (lv' := [(2, .int (bz r_15)), (1, .int r_11), (0, .ref (a 0))]) hx hb dX6_plain_49 rfl hl (by decide) rfl (fun ls hl => ?_)
        refine lv_iload_n hx hb dX6_plain_50 rfl (lv_at hl 0 rfl) ?_
        refine lv_if_ne (tgt := 73) hx hb dX6_plain_51 (by decide) (fun c_16 => ?_) (fun c_16 => ?_)
        · have hrun := mif_p (bz_nz c_16) hrun
          refine lv_aload_n hx hb dX6_plain_73 rfl (lv_at hl 2 rfl) ?_
          refine lv_dup hx hb dX6_plain_74 rfl ?_
          refine va_get (ci := 0) (v := .int (tw_at_ t_14)) (C := RX6) (T := TX6) (N := 22) hx hb hts in_X6 hown hK hP 0 rfl rfl 11 (by decide) (hts _ q1913) (fun _ h9 => h9) rfl dX6_plain_75 ?_
          refine lv_iconst (v := (1 : Int32)) hx hb dX6_plain_78 (by decide) ?_
          refine lv_iadd hx hb dX6_plain_79 ?_
          refine va_put (ci := 0) (v := .int ((tw_at_ t_14) + (1 : Int32))) (ty := tyX6 11) (C := RX6) (T := TX6) (N := 22) hx hb hts in_X6 tyX6 tyX6_ok nmX6 hown hK hP hD hS 0 rfl rfl 11 (by decide) (hts _ q1913) (fun _ h9 => h9) rfl (tyX6_ok 11 (by decide)) rfl rfl (Nat.le_of_ble_eq_true rfl) dX6_plain_80 (fun H locs hP hD hS => ?_)
          have hP : va_P D zCl (cT k a (tw_s_at_ t_14 ((tw_at_ t_14) + (1 : Int32)))) H := hP
          have hD : va_D A (cT k a (tw_s_at_ t_14 ((tw_at_ t_14) + (1 : Int32)))) := hD
          obtain ⟨t_17, et_17⟩ : ∃ z : Tw, z = (tw_s_at_ t_14 ((tw_at_ t_14) + (1 : Int32))) := ⟨_, rfl⟩
          rw [← et_17] at hP hD
          have hrun := mlt_s hrun t_17 et_17
          refine lv_aload_n hx hb dX6_plain_83 rfl (lv_at hl 2 rfl) ?_
          obtain ⟨r_20, t_19, hc_18, hrun⟩ := mo2_s rfl hrun
          refine cWV00 (As := []) (ci := 0) ⟨hx, hb, hml, hown, hts⟩ hOK hz hS hA hP hD (mtX6_sum l D k a Z hOK hStr _ _ _ hc_18) (kX6_sum hts q2066 rfl rfl ⟨Nat.le_of_ble_eq_true rfl, Nat.le_of_ble_eq_true rfl⟩) 0 rfl rfl rfl hl.1 rfl (lv_room (Nat.le_of_ble_eq_true rfl)) ⟨Nat.le_of_ble_eq_true rfl, Nat.le_of_ble_eq_true rfl⟩ dX6_plain_84 (fun r_ w_ H locs hq hP hD hS => ?_)
          obtain ⟨rfl, rfl⟩ := hq
          refine lv_istore_n (lv' := [(3, .int r_20), (2, .int (bz r_15)), (1, .int r_11), (0, .ref (a 0))]) hx hb dX6_plain_87 rfl hl (by decide) rfl (fun ls hl => ?_)
          refine lv_iload_n hx hb dX6_plain_88 rfl (lv_at hl 1 rfl) ?_
          refine lv_if_eq (tgt := 105) hx hb dX6_plain_89 (by decide) (fun c_21 => ?_) (fun c_21 => ?_)
          · have hrun := mif_n (bz_z c_21) hrun
            refine lv_iload_n hx hb dX6_plain_105 rfl (lv_at hl 2 rfl) ?_
            refine lv_iload_n hx hb dX6_plain_106 rfl (lv_at hl 0 rfl) ?_
            refine lv_icmp_le (tgt := 114) hx hb dX6_plain_107 (by decide) (fun c_22 => ?_) (fun c_22 => ?_)
            · have hrun := mif_p c_22 hrun
              refine lv_iconst (v := (0 : Int32)) hx hb dX6_plain_114 (by decide) ?_
              cases hrun
              exact retW_z (v := false) hx hb hr hlocks hP hD hS ⟨rfl, rfl⟩ dX6_plain_115
            have hrun := mif_n c_22 hrun
            refine lv_iconst (v := (1 : Int32)) hx hb dX6_plain_110 (by decide) ?_
            refine lv_goto (tgt := 115) hx hb dX6_plain_111 (by decide) ?_
            cases hrun
            exact retW_z (v := true) hx hb hr hlocks hP hD hS ⟨rfl, rfl⟩ dX6_plain_115
          have hrun := mif_p (bz_nz c_21) hrun
          refine lv_iload_n hx hb dX6_plain_92 rfl (lv_at hl 2 rfl) ?_
          refine lv_iload_n hx hb dX6_plain_93 rfl (lv_at hl 0 rfl) ?_
          refine lv_icmp_ge (tgt := 101) hx hb dX6_plain_94 (by decide) (fun c_23 => ?_) (fun c_23 => ?_)
          · have hrun := mif_p c_23 hrun
            refine lv_iconst (v := (0 : Int32)) hx hb dX6_plain_101 (by decide) ?_
            refine lv_goto (tgt := 115) hx hb dX6_plain_102 (by decide) ?_
            cases hrun
            exact retW_z (v := false) hx hb hr hlocks hP hD hS ⟨rfl, rfl⟩ dX6_plain_115
          have hrun := mif_n c_23 hrun
          refine lv_iconst (v := (1 : Int32)) hx hb dX6_plain_97 (by decide) ?_
          refine lv_goto (tgt := 115) hx hb dX6_plain_98 (by decide) ?_
          cases hrun
          exact retW_z (v := true) hx hb hr hlocks hP hD hS ⟨rfl, rfl⟩ dX6_plain_115
        have hrun := mif_n (bz_z c_16) hrun
        refine lv_aload_n hx hb dX6_plain_54 rfl (lv_at hl 2 rfl) ?_
        refine lv_bipush (v := (62 : Int32)) hx hb dX6_plain_55 (by decide) ?_
        obtain ⟨r_26, t_25, hc_24, hrun⟩ := mo2_s rfl hrun
        refine cWV00 (As := [.int (62 : Int32)]) (ci := 0) ⟨hx, hb, hml, hown, hts⟩ hOK hz hS hA hP hD (mtX6_isSign l D k a Z hOK _ _ _ _ hc_24) (kX6_isSign hts q2056 rfl rfl ⟨Nat.le_of_ble_eq_true rfl, Nat.le_of_ble_eq_true rfl⟩) 0 rfl rfl rfl hl.1 rfl (lv_room (Nat.le_of_ble_eq_true rfl)) ⟨Nat.le_of_ble_eq_true rfl, Nat.le_of_ble_eq_true rfl⟩ dX6_plain_57 (fun r_ w_ H locs hq hP hD hS => ?_)
        obtain ⟨rfl, rfl⟩ := hq
        refine lv_if_ne (tgt := 73) hx hb dX6_plain_60 (by decide) (fun c_27 => ?_) (fun c_27 => ?_)
        · have hrun := mif_p (bz_nz c_27) hrun
          refine lv_aload_n hx hb dX6_plain_73 rfl (lv_at hl 2 rfl) ?_
          refine lv_dup hx hb dX6_plain_74 rfl ?_
          refine va_get (ci := 0) (v := .int (tw_at_ t_25)) (C := RX6) (T := TX6) (N := 22) hx hb hts in_X6 hown hK hP 0 rfl rfl 11 (by decide) (hts _ q1913) (fun _ h9 => h9) rfl dX6_plain_75 ?_
          refine lv_iconst (v := (1 : Int32)) hx hb dX6_plain_78 (by decide) ?_
          refine lv_iadd hx hb dX6_plain_79 ?_
          refine va_put (ci := 0) (v := .int ((tw_at_ t_25) + (1 : Int32))) (ty := tyX6 11) (C := RX6) (T := TX6) (N := 22) hx hb hts in_X6 tyX6 tyX6_ok nmX6 hown hK hP hD hS 0 rfl rfl 11 (by decide) (hts _ q1913) (fun _ h9 => h9) rfl (tyX6_ok 11 (by decide)) rfl rfl (Nat.le_of_ble_eq_true rfl) dX6_plain_80 (fun H locs hP hD hS => ?_)
          have hP : va_P D zCl (cT k a (tw_s_at_ t_25 ((tw_at_ t_25) + (1 : Int32)))) H := hP
          have hD : va_D A (cT k a (tw_s_at_ t_25 ((tw_at_ t_25) + (1 : Int32)))) := hD
          obtain ⟨t_28, et_28⟩ : ∃ z : Tw, z = (tw_s_at_ t_25 ((tw_at_ t_25) + (1 : Int32))) := ⟨_, rfl⟩
          rw [← et_28] at hP hD
          have hrun := mlt_s hrun t_28 et_28
          refine lv_aload_n hx hb dX6_plain_83 rfl (lv_at hl 2 rfl) ?_
          obtain ⟨r_31, t_30, hc_29, hrun⟩ := mo2_s rfl hrun
          refine cWV00 (As := []) (ci := 0) ⟨hx, hb, hml, hown, hts⟩ hOK hz hS hA hP hD (mtX6_sum l D k a Z hOK hStr _ _ _ hc_29) (kX6_sum hts q2066 rfl rfl ⟨Nat.le_of_ble_eq_true rfl, Nat.le_of_ble_eq_true rfl⟩) 0 rfl rfl rfl hl.1 rfl (lv_room (Nat.le_of_ble_eq_true rfl)) ⟨Nat.le_of_ble_eq_true rfl, Nat.le_of_ble_eq_true rfl⟩ dX6_plain_84 (fun r_ w_ H locs hq hP hD hS => ?_)
          obtain ⟨rfl, rfl⟩ := hq
          refine lv_istore_n (lv' := [(3, .int r_31), (2, .int (bz r_15)), (1, .int r_11), (0, .ref (a 0))]) hx hb dX6_plain_87 rfl hl (by decide) rfl (fun ls hl => ?_)
          refine lv_iload_n hx hb dX6_plain_88 rfl (lv_at hl 1 rfl) ?_
          refine lv_if_eq (tgt := 105) hx hb dX6_plain_89 (by decide) (fun c_32 => ?_) (fun c_32 => ?_)
          · have hrun := mif_n (bz_z c_32) hrun
            refine lv_iload_n hx hb dX6_plain_105 rfl (lv_at hl 2 rfl) ?_
            refine lv_iload_n hx hb dX6_plain_106 rfl (lv_at hl 0 rfl) ?_
            refine lv_icmp_le (tgt := 114) hx hb dX6_plain_107 (by decide) (fun c_33 => ?_) (fun c_33 => ?_)
            · have hrun := mif_p c_33 hrun
              refine lv_iconst (v := (0 : Int32)) hx hb dX6_plain_114 (by decide) ?_
              cases hrun
              exact retW_z (v := false) hx hb hr hlocks hP hD hS ⟨rfl, rfl⟩ dX6_plain_115
            have hrun := mif_n c_33 hrun
            refine lv_iconst (v := (1 : Int32)) hx hb dX6_plain_110 (by decide) ?_
            refine lv_goto (tgt := 115) hx hb dX6_plain_111 (by decide) ?_
            cases hrun
            exact retW_z (v := true) hx hb hr hlocks hP hD hS ⟨rfl, rfl⟩ dX6_plain_115
          have hrun := mif_p (bz_nz c_32) hrun
          refine lv_iload_n hx hb dX6_plain_92 rfl (lv_at hl 2 rfl) ?_
          refine lv_iload_n hx hb dX6_plain_93 rfl (lv_at hl 0 rfl) ?_
          refine lv_icmp_ge (tgt := 101) hx hb dX6_plain_94 (by decide) (fun c_34 => ?_) (fun c_34 => ?_)
          · have hrun := mif_p c_34 hrun
            refine lv_iconst (v := (0 : Int32)) hx hb dX6_plain_101 (by decide) ?_
            refine lv_goto (tgt := 115) hx hb dX6_plain_102 (by decide) ?_
            cases hrun
            exact retW_z (v := false) hx hb hr hlocks hP hD hS ⟨rfl, rfl⟩ dX6_plain_115
          have hrun := mif_n c_34 hrun
          refine lv_iconst (v := (1 : Int32)) hx hb dX6_plain_97 (by decide) ?_
          refine lv_goto (tgt := 115) hx hb dX6_plain_98 (by decide) ?_
          cases hrun
          exact retW_z (v := true) hx hb hr hlocks hP hD hS ⟨rfl, rfl⟩ dX6_plain_115
        have hrun := mif_n (bz_z c_27) hrun
        refine lv_aload_n hx hb dX6_plain_63 rfl (lv_at hl 2 rfl) ?_
        refine lv_aload_n hx hb dX6_plain_64 rfl (lv_at hl 2 rfl) ?_
        refine va_get (ci := 0) (v := .int (tw_at_ t_25)) (C := RX6) (T := TX6) (N := 22) hx hb hts in_X6 hown hK hP 0 rfl rfl 11 (by decide) (hts _ q1913) (fun _ h9 => h9) rfl dX6_plain_65 ?_
        obtain ⟨t_36, hc_35, hrun⟩ := mob_s rfl hrun
        refine cWV00 (As := [.int (tw_at_ t_25)]) (ci := 0) ⟨hx, hb, hml, hown, hts⟩ hOK hz hS hA hP hD (mtX6_wrong l D k a Z hOK _ _ _ hc_35) (kX6_wrong hts q2008 rfl rfl ⟨Nat.le_of_ble_eq_true rfl, Nat.le_of_ble_eq_true rfl⟩) 0 rfl rfl rfl hl.1 rfl (lv_room (Nat.le_of_ble_eq_true rfl)) ⟨Nat.le_of_ble_eq_true rfl, Nat.le_of_ble_eq_true rfl⟩ dX6_plain_68 (fun r_ w_ H locs hq hP hD hS => ?_)
        obtain ⟨rfl, rfl⟩ := hq
        refine lv_iconst (v := (0 : Int32)) hx hb dX6_plain_71 (by decide) ?_
        cases hrun
        exact retW_z (v := false) hx hb hr hlocks hP hD hS ⟨rfl, rfl⟩ dX6_plain_72
      have hrun := mif_n c_12 hrun
      refine lv_iconst (v := (0 : Int32)) hx hb dX6_plain_41 (by decide) ?_
      cases hrun
      exact retW_z (v := false) hx hb hr hlocks hP hD hS ⟨rfl, rfl⟩ dX6_plain_42
    have hrun := mif_p (bz_nz c_8) hrun
    refine lv_aload_n hx hb dX6_plain_23 rfl (lv_at hl 0 rfl) ?_
    refine va_get (ci := 0) (v := .int (bz (tw_isEve t_6))) (C := RX6) (T := TX6) (N := 22) hx hb hts in_X6 hown hK hP 0 rfl rfl 16 (by decide) (hts _ q1918) (fun _ h9 => h9) rfl dX6_plain_24 ?_
    cases hrun
    exact retW_z hx hb hr hlocks hP hD hS ⟨rfl, rfl⟩ dX6_plain_27
  have hrun := mif_p (bz_nz c_4) hrun
  refine lv_aload_n hx hb dX6_plain_9 rfl (lv_at hl 0 rfl) ?_
  refine va_get (ci := 0) (v := .int (bz (tw_hasKey t_2))) (C := RX6) (T := TX6) (N := 22) hx hb hts in_X6 hown hK hP 0 rfl rfl 15 (by decide) (hts _ q1917) (fun _ h9 => h9) rfl dX6_plain_10 ?_
  cases hrun
  exact retW_z hx hb hr hlocks hP hD hS ⟨rfl, rfl⟩ dX6_plain_13
def rX6_houseLine : Room := { frames := 7, cells := 0, slots := 0, locals := 157 }
noncomputable def fX6_houseLine (t : Tw) : Option (Tw) :=
  mo2 (fX6_place t) fun r_3 t_2 =>
  mo2 (fX6_has t_2 0) fun r_6 t_5 =>
  if r_6 = true then
    mob (fX6_guestLine t_5 r_3) fun t_63 =>
    some t_63
  else
    mo2 (fX6_has t_5 1) fun r_10 t_9 =>
    if r_10 = true then
      mob (fX6_holeLine t_9) fun t_61 =>
      some t_61
    else
      mo2 (fX6_has t_9 2) fun r_14 t_13 =>
      if r_14 = true then
        mob (fX6_tells t_13 (4 : Int32) (7 : Int32)) fun t_59 =>
        some t_59
      else
        mo2 (fX6_has t_13 3) fun r_18 t_17 =>
        if r_18 = true then
          mo2 (fX6_figures t_17 (0 : Int32) (1 : Int32)) fun r_54 t_53 =>
          if (tw_fault t_53) = (-1 : Int32) then
            mob (fX6_tells t_53 ((12 : Int32) + r_54) (6 : Int32)) fun t_57 =>
            some t_57
          else
            some t_53
        else
          mo2 (fX6_has t_17 4) fun r_22 t_21 =>
          if r_22 = true then
            mob (fX6_tells t_21 (5 : Int32) (1 : Int32)) fun t_51 =>
            some t_51
          else
            mo2 (fX6_has t_21 5) fun r_26 t_25 =>
            if r_26 = true then
              mob (fX6_tells t_25 (6 : Int32) (9 : Int32)) fun t_49 =>
              some t_49
            else
              mo2 (fX6_has t_25 6) fun r_30 t_29 =>
              if r_30 = true then
                mob (fX6_tells t_29 (7 : Int32) (999 : Int32)) fun t_47 =>
                some t_47
              else
                mo2 (fX6_has t_29 7) fun r_34 t_33 =>
                if r_34 = true then
                  mob (fX6_tells t_33 (9 : Int32) (100 : Int32)) fun t_45 =>
                  some t_45
                else
                  mo2 (fX6_has t_33 8) fun r_38 t_37 =>
                  if r_38 = true then
                    mob (fX6_tells t_37 (10 : Int32) (999 : Int32)) fun t_43 =>
                    some t_43
                  else
                    mob (fX6_wrong t_37 (tw_at_ t_37)) fun t_41 =>
                    some t_41
theorem kX6_houseLine {R : Room} {s : State} {args : Array Value} {own : String} {idx mc ms : Nat} {rm : Room} (hts : ∀ w ∈ lw_all, w.before args s = true) (hl : Cond.methodLink own idx yX6_houseLine ∈ lw_all) (hrc : rm.cells = mc) (hrs : rm.slots = ms) (hR : rm.frames + 1 ≤ R.frames ∧ 8 + (3 + 11) + rm.locals ≤ R.locals) : CallW R s args own RX6 idx yX6_houseLine cX6_houseLine 3 none (ws_ yX6_houseLine cX6_houseLine 3 none) rm mc ms 0 :=
  cwV 0 hts (lw_V hl q2085 qs66 q115 q2086) rfl hrc hrs (by decide +kernel) hR
set_option maxHeartbeats 4000000 in
set_option maxRecDepth 100000 in
theorem mtX6_houseLine (l : Launch) (D : va_G) (k : Nat → ClassId) (a : Nat → Nat) (Z : zZ) (hOK : zOK D zCl (zTys k) Z) {adK adV : Nat → Nat} (hStr : zStr Z adK adV) (t : Tw) (tt : Tw) (hrun : fX6_houseLine t = some tt) :
    CtW l yX6_houseLine cX6_houseLine 3 none rX6_houseLine Z D zCl (cT k a t) [.ref (a 0)] (fun r' w' => r' = none ∧ w' = cT k a tt) 0 0 := by
  refine CtW.of (by decide) (Nat.le_of_ble_eq_true rfl) ?_
  intro p e s m args below meth c A hE hA hP hD hS hz ls hl
  obtain ⟨hx, hb, hr, hml, hown, hts, hlocks, hname⟩ := hE
  have hown : s.vm.findClass RX6 = some m.cls := hown
  have hK := hOK.1 _ _ _ hz
  have hl : lv_has ls 3 [(0, .ref (a 0))] := hl
  unfold fX6_houseLine at hrun
  refine lv_aload_n hx hb dX6_houseLine_0 rfl (lv_at hl 0 rfl) ?_
  obtain ⟨r_3, t_2, hc_1, hrun⟩ := mo2_s rfl hrun
  refine cWV00 (As := []) (ci := 0) ⟨hx, hb, hml, hown, hts⟩ hOK hz hS hA hP hD (mtX6_place l D k a Z hOK _ _ _ hc_1) (kX6_place hts q2038 rfl rfl ⟨Nat.le_of_ble_eq_true rfl, Nat.le_of_ble_eq_true rfl⟩) 0 rfl rfl rfl hl.1 rfl (lv_room (Nat.le_of_ble_eq_true rfl)) ⟨Nat.le_of_ble_eq_true rfl, Nat.le_of_ble_eq_true rfl⟩ dX6_houseLine_1 (fun r_ w_ H locs hq hP hD hS => ?_)
  obtain ⟨rfl, rfl⟩ := hq
  refine lv_istore_n (lv' := [(1, .int r_3), (0, .ref (a 0))]) hx hb dX6_houseLine_4 rfl hl (by decide) rfl (fun ls hl => ?_)
  refine lv_aload_n hx hb dX6_houseLine_5 rfl (lv_at hl 1 rfl) ?_
  refine va_ldcS hx hb hown (sr25 hStr hz) dX6_houseLine_6 ?_
  obtain ⟨r_6, t_5, hc_4, hrun⟩ := mo2_s rfl hrun
  refine cWV00 (As := [.ref (adK 0)]) (ci := 0) ⟨hx, hb, hml, hown, hts⟩ hOK hz hS hA hP hD (mtX6_has l D k a Z hOK hStr _ _ _ _ hc_4) (kX6_has hts q2017 rfl rfl ⟨Nat.le_of_ble_eq_true rfl, Nat.le_of_ble_eq_true rfl⟩) 0 rfl rfl rfl hl.1 rfl (lv_room (Nat.le_of_ble_eq_true rfl)) ⟨Nat.le_of_ble_eq_true rfl, Nat.le_of_ble_eq_true rfl⟩ dX6_houseLine_8 (fun r_ w_ H locs hq hP hD hS => ?_)
  obtain ⟨rfl, rfl⟩ := hq
  refine lv_if_eq (tgt := 22) hx hb dX6_houseLine_11 (by decide) (fun c_7 => ?_) (fun c_7 => ?_)
  · have hrun := mif_n (bz_z c_7) hrun
    refine lv_aload_n hx hb dX6_houseLine_22 rfl (lv_at hl 1 rfl) ?_
    refine va_ldcS hx hb hown (sr35 hStr hz) dX6_houseLine_23 ?_
    obtain ⟨r_10, t_9, hc_8, hrun⟩ := mo2_s rfl hrun
    refine cWV00 (As := [.ref (adK 1)]) (ci := 0) ⟨hx, hb, hml, hown, hts⟩ hOK hz hS hA hP hD (mtX6_has l D k a Z hOK hStr _ _ _ _ hc_8) (kX6_has hts q2017 rfl rfl ⟨Nat.le_of_ble_eq_true rfl, Nat.le_of_ble_eq_true rfl⟩) 0 rfl rfl rfl hl.1 rfl (lv_room (Nat.le_of_ble_eq_true rfl)) ⟨Nat.le_of_ble_eq_true rfl, Nat.le_of_ble_eq_true rfl⟩ dX6_houseLine_25 (fun r_ w_ H locs hq hP hD hS => ?_)
    obtain ⟨rfl, rfl⟩ := hq
    refine lv_if_eq (tgt := 38) hx hb dX6_houseLine_28 (by decide) (fun c_11 => ?_) (fun c_11 => ?_)
    · have hrun := mif_n (bz_z c_11) hrun
      refine lv_aload_n hx hb dX6_houseLine_38 rfl (lv_at hl 1 rfl) ?_
      refine va_ldcS hx hb hown (sr36 hStr hz) dX6_houseLine_39 ?_
      obtain ⟨r_14, t_13, hc_12, hrun⟩ := mo2_s rfl hrun
      refine cWV00 (As := [.ref (adK 2)]) (ci := 0) ⟨hx, hb, hml, hown, hts⟩ hOK hz hS hA hP hD (mtX6_has l D k a Z hOK hStr _ _ _ _ hc_12) (kX6_has hts q2017 rfl rfl ⟨Nat.le_of_ble_eq_true rfl, Nat.le_of_ble_eq_true rfl⟩) 0 rfl rfl rfl hl.1 rfl (lv_room (Nat.le_of_ble_eq_true rfl)) ⟨Nat.le_of_ble_eq_true rfl, Nat.le_of_ble_eq_true rfl⟩ dX6_houseLine_41 (fun r_ w_ H locs hq hP hD hS => ?_)
      obtain ⟨rfl, rfl⟩ := hq
      refine lv_if_eq (tgt := 57) hx hb dX6_houseLine_44 (by decide) (fun c_15 => ?_) (fun c_15 => ?_)
      · have hrun := mif_n (bz_z c_15) hrun
        refine lv_aload_n hx hb dX6_houseLine_57 rfl (lv_at hl 1 rfl) ?_
        refine va_ldcS hx hb hown (sr37 hStr hz) dX6_houseLine_58 ?_
        obtain ⟨r_18, t_17, hc_16, hrun⟩ := mo2_s rfl hrun
        refine cWV00 (As := [.ref (adK 3)]) (ci := 0) ⟨hx, hb, hml, hown, hts⟩ hOK hz hS hA hP hD (mtX6_has l D k a Z hOK hStr _ _ _ _ hc_16) (kX6_has hts q2017 rfl rfl ⟨Nat.le_of_ble_eq_true rfl, Nat.le_of_ble_eq_true rfl⟩) 0 rfl rfl rfl hl.1 rfl (lv_room (Nat.le_of_ble_eq_true rfl)) ⟨Nat.le_of_ble_eq_true rfl, Nat.le_of_ble_eq_true rfl⟩ dX6_houseLine_60 (fun r_ w_ H locs hq hP hD hS => ?_)
        obtain ⟨rfl, rfl⟩ := hq
        refine lv_if_eq (tgt := 94) hx hb dX6_houseLine_63 (by decide) (fun c_19 => ?_) (fun c_19 => ?_)
        · have hrun := mif_n (bz_z c_19) hrun
          refine lv_aload_n hx hb dX6_houseLine_94 rfl (lv_at hl 1 rfl) ?_
          refine va_ldcS hx hb hown (sr38 hStr hz) dX6_houseLine_95 ?_
          obtain ⟨r_22, t_21, hc_20, hrun⟩ := mo2_s rfl hrun
          refine cWV00 (As := [.ref (adK 4)]) (ci := 0) ⟨hx, hb, hml, hown, hts⟩ hOK hz hS hA hP hD (mtX6_has l D k a Z hOK hStr _ _ _ _ hc_20) (kX6_has hts q2017 rfl rfl ⟨Nat.le_of_ble_eq_true rfl, Nat.le_of_ble_eq_true rfl⟩) 0 rfl rfl rfl hl.1 rfl (lv_room (Nat.le_of_ble_eq_true rfl)) ⟨Nat.le_of_ble_eq_true rfl, Nat.le_of_ble_eq_true rfl⟩ dX6_houseLine_97 (fun r_ w_ H locs hq hP hD hS => ?_)
          obtain ⟨rfl, rfl⟩ := hq
          refine lv_if_eq (tgt := 112) hx hb dX6_houseLine_100 (by decide) (fun c_23 => ?_) (fun c_23 => ?_)
          · have hrun := mif_n (bz_z c_23) hrun
            refine lv_aload_n hx hb dX6_houseLine_112 rfl (lv_at hl 1 rfl) ?_
            refine va_ldcS hx hb hown (sr39 hStr hz) dX6_houseLine_113 ?_
            obtain ⟨r_26, t_25, hc_24, hrun⟩ := mo2_s rfl hrun
            refine cWV00 (As := [.ref (adK 5)]) (ci := 0) ⟨hx, hb, hml, hown, hts⟩ hOK hz hS hA hP hD (mtX6_has l D k a Z hOK hStr _ _ _ _ hc_24) (kX6_has hts q2017 rfl rfl ⟨Nat.le_of_ble_eq_true rfl, Nat.le_of_ble_eq_true rfl⟩) 0 rfl rfl rfl hl.1 rfl (lv_room (Nat.le_of_ble_eq_true rfl)) ⟨Nat.le_of_ble_eq_true rfl, Nat.le_of_ble_eq_true rfl⟩ dX6_houseLine_115 (fun r_ w_ H locs hq hP hD hS => ?_)
            obtain ⟨rfl, rfl⟩ := hq
            refine lv_if_eq (tgt := 132) hx hb dX6_houseLine_118 (by decide) (fun c_27 => ?_) (fun c_27 => ?_)
            · have hrun := mif_n (bz_z c_27) hrun
              refine lv_aload_n hx hb dX6_houseLine_132 rfl (lv_at hl 1 rfl) ?_
              refine va_ldcS hx hb hown (sr40 hStr hz) dX6_houseLine_133 ?_
              obtain ⟨r_30, t_29, hc_28, hrun⟩ := mo2_s rfl hrun
              refine cWV00 (As := [.ref (adK 6)]) (ci := 0) ⟨hx, hb, hml, hown, hts⟩ hOK hz hS hA hP hD (mtX6_has l D k a Z hOK hStr _ _ _ _ hc_28) (kX6_has hts q2017 rfl rfl ⟨Nat.le_of_ble_eq_true rfl, Nat.le_of_ble_eq_true rfl⟩) 0 rfl rfl rfl hl.1 rfl (lv_room (Nat.le_of_ble_eq_true rfl)) ⟨Nat.le_of_ble_eq_true rfl, Nat.le_of_ble_eq_true rfl⟩ dX6_houseLine_135 (fun r_ w_ H locs hq hP hD hS => ?_)
              obtain ⟨rfl, rfl⟩ := hq
              refine lv_if_eq (tgt := 153) hx hb dX6_houseLine_138 (by decide) (fun c_31 => ?_) (fun c_31 => ?_)
              · have hrun := mif_n (bz_z c_31) hrun
                refine lv_aload_n hx hb dX6_houseLine_153 rfl (lv_at hl 1 rfl) ?_
                refine va_ldcS hx hb hown (sr41 hStr hz) dX6_houseLine_154 ?_
                obtain ⟨r_34, t_33, hc_32, hrun⟩ := mo2_s rfl hrun
                refine cWV00 (As := [.ref (adK 7)]) (ci := 0) ⟨hx, hb, hml, hown, hts⟩ hOK hz hS hA hP hD (mtX6_has l D k a Z hOK hStr _ _ _ _ hc_32) (kX6_has hts q2017 rfl rfl ⟨Nat.le_of_ble_eq_true rfl, Nat.le_of_ble_eq_true rfl⟩) 0 rfl rfl rfl hl.1 rfl (lv_room (Nat.le_of_ble_eq_true rfl)) ⟨Nat.le_of_ble_eq_true rfl, Nat.le_of_ble_eq_true rfl⟩ dX6_houseLine_156 (fun r_ w_ H locs hq hP hD hS => ?_)
                obtain ⟨rfl, rfl⟩ := hq
                refine lv_if_eq (tgt := 173) hx hb dX6_houseLine_159 (by decide) (fun c_35 => ?_) (fun c_35 => ?_)
                · have hrun := mif_n (bz_z c_35) hrun
                  refine lv_aload_n hx hb dX6_houseLine_173 rfl (lv_at hl 1 rfl) ?_
                  refine va_ldcS hx hb hown (sr42 hStr hz) dX6_houseLine_174 ?_
                  obtain ⟨r_38, t_37, hc_36, hrun⟩ := mo2_s rfl hrun
                  refine cWV00 (As := [.ref (adK 8)]) (ci := 0) ⟨hx, hb, hml, hown, hts⟩ hOK hz hS hA hP hD (mtX6_has l D k a Z hOK hStr _ _ _ _ hc_36) (kX6_has hts q2017 rfl rfl ⟨Nat.le_of_ble_eq_true rfl, Nat.le_of_ble_eq_true rfl⟩) 0 rfl rfl rfl hl.1 rfl (lv_room (Nat.le_of_ble_eq_true rfl)) ⟨Nat.le_of_ble_eq_true rfl, Nat.le_of_ble_eq_true rfl⟩ dX6_houseLine_176 (fun r_ w_ H locs hq hP hD hS => ?_)
                  obtain ⟨rfl, rfl⟩ := hq
                  refine lv_if_eq (tgt := 194) hx hb dX6_houseLine_179 (by decide) (fun c_39 => ?_) (fun c_39 => ?_)
                  · have hrun := mif_n (bz_z c_39) hrun
                    refine lv_aload_n hx hb dX6_houseLine_194 rfl (lv_at hl 1 rfl) ?_
                    refine lv_aload_n hx hb dX6_houseLine_195 rfl (lv_at hl 1 rfl) ?_
                    refine va_get (ci := 0) (v := .int (tw_at_ t_37)) (C := RX6) (T := TX6) (N := 22) hx hb hts in_X6 hown hK hP 0 rfl rfl 11 (by decide) (hts _ q1913) (fun _ h9 => h9) rfl dX6_houseLine_196 ?_
                    obtain ⟨t_41, hc_40, hrun⟩ := mob_s rfl hrun
                    refine cWV00 (As := [.int (tw_at_ t_37)]) (ci := 0) ⟨hx, hb, hml, hown, hts⟩ hOK hz hS hA hP hD (mtX6_wrong l D k a Z hOK _ _ _ hc_40) (kX6_wrong hts q2008 rfl rfl ⟨Nat.le_of_ble_eq_true rfl, Nat.le_of_ble_eq_true rfl⟩) 0 rfl rfl rfl hl.1 rfl (lv_room (Nat.le_of_ble_eq_true rfl)) ⟨Nat.le_of_ble_eq_true rfl, Nat.le_of_ble_eq_true rfl⟩ dX6_houseLine_199 (fun r_ w_ H locs hq hP hD hS => ?_)
                    obtain ⟨rfl, rfl⟩ := hq
                    cases hrun
                    exact retW_v hx hb hr hlocks hP hD hS ⟨rfl, rfl⟩ dX6_houseLine_202
                  have hrun := mif_p (bz_nz c_39) hrun
                  refine lv_aload_n hx hb dX6_houseLine_182 rfl (lv_at hl 1 rfl) ?_
                  refine lv_bipush (v := (10 : Int32)) hx hb dX6_houseLine_183 (by decide) ?_
                  refine lv_sipush (v := (999 : Int32)) hx hb dX6_houseLine_185 (by decide) ?_
                  obtain ⟨t_43, hc_42, hrun⟩ := mob_s rfl hrun
                  refine cWV00 (As := [.int (10 : Int32), .int (999 : Int32)]) (ci := 0) ⟨hx, hb, hml, hown, hts⟩ hOK hz hS hA hP hD (mtX6_tells l D k a Z hOK _ _ _ _ hc_42) (kX6_tells hts q2106 rfl rfl ⟨Nat.le_of_ble_eq_true rfl, Nat.le_of_ble_eq_true rfl⟩) 0 rfl rfl rfl hl.1 rfl (lv_room (Nat.le_of_ble_eq_true rfl)) ⟨Nat.le_of_ble_eq_true rfl, Nat.le_of_ble_eq_true rfl⟩ dX6_houseLine_188 (fun r_ w_ H locs hq hP hD hS => ?_)
                  obtain ⟨rfl, rfl⟩ := hq
                  refine lv_goto (tgt := 202) hx hb dX6_houseLine_191 (by decide) ?_
                  cases hrun
                  exact retW_v hx hb hr hlocks hP hD hS ⟨rfl, rfl⟩ dX6_houseLine_202
                have hrun := mif_p (bz_nz c_35) hrun
                refine lv_aload_n hx hb dX6_houseLine_162 rfl (lv_at hl 1 rfl) ?_
                refine lv_bipush (v := (9 : Int32)) hx hb dX6_houseLine_163 (by decide) ?_
                refine lv_bipush (v := (100 : Int32)) hx hb dX6_houseLine_165 (by decide) ?_
                obtain ⟨t_45, hc_44, hrun⟩ := mob_s rfl hrun
                refine cWV00 (As := [.int (9 : Int32), .int (100 : Int32)]) (ci := 0) ⟨hx, hb, hml, hown, hts⟩ hOK hz hS hA hP hD (mtX6_tells l D k a Z hOK _ _ _ _ hc_44) (kX6_tells hts q2106 rfl rfl ⟨Nat.le_of_ble_eq_true rfl, Nat.le_of_ble_eq_true rfl⟩) 0 rfl rfl rfl hl.1 rfl (lv_room (Nat.le_of_ble_eq_true rfl)) ⟨Nat.le_of_ble_eq_true rfl, Nat.le_of_ble_eq_true rfl⟩ dX6_houseLine_167 (fun r_ w_ H locs hq hP hD hS => ?_)
                obtain ⟨rfl, rfl⟩ := hq
                refine lv_goto (tgt := 202) hx hb dX6_houseLine_170 (by decide) ?_
                cases hrun
                exact retW_v hx hb hr hlocks hP hD hS ⟨rfl, rfl⟩ dX6_houseLine_202
              have hrun := mif_p (bz_nz c_31) hrun
              refine lv_aload_n hx hb dX6_houseLine_141 rfl (lv_at hl 1 rfl) ?_
              refine lv_bipush (v := (7 : Int32)) hx hb dX6_houseLine_142 (by decide) ?_
              refine lv_sipush (v := (999 : Int32)) hx hb dX6_houseLine_144 (by decide) ?_
              obtain ⟨t_47, hc_46, hrun⟩ := mob_s rfl hrun
              refine cWV00 (As := [.int (7 : Int32), .int (999 : Int32)]) (ci := 0) ⟨hx, hb, hml, hown, hts⟩ hOK hz hS hA hP hD (mtX6_tells l D k a Z hOK _ _ _ _ hc_46) (kX6_tells hts q2106 rfl rfl ⟨Nat.le_of_ble_eq_true rfl, Nat.le_of_ble_eq_true rfl⟩) 0 rfl rfl rfl hl.1 rfl (lv_room (Nat.le_of_ble_eq_true rfl)) ⟨Nat.le_of_ble_eq_true rfl, Nat.le_of_ble_eq_true rfl⟩ dX6_houseLine_147 (fun r_ w_ H locs hq hP hD hS => ?_)
              obtain ⟨rfl, rfl⟩ := hq
              refine lv_goto (tgt := 202) hx hb dX6_houseLine_150 (by decide) ?_
              cases hrun
              exact retW_v hx hb hr hlocks hP hD hS ⟨rfl, rfl⟩ dX6_houseLine_202
            have hrun := mif_p (bz_nz c_27) hrun
            refine lv_aload_n hx hb dX6_houseLine_121 rfl (lv_at hl 1 rfl) ?_
            refine lv_bipush (v := (6 : Int32)) hx hb dX6_houseLine_122 (by decide) ?_
            refine lv_bipush (v := (9 : Int32)) hx hb dX6_houseLine_124 (by decide) ?_
            obtain ⟨t_49, hc_48, hrun⟩ := mob_s rfl hrun
            refine cWV00 (As := [.int (6 : Int32), .int (9 : Int32)]) (ci := 0) ⟨hx, hb, hml, hown, hts⟩ hOK hz hS hA hP hD (mtX6_tells l D k a Z hOK _ _ _ _ hc_48) (kX6_tells hts q2106 rfl rfl ⟨Nat.le_of_ble_eq_true rfl, Nat.le_of_ble_eq_true rfl⟩) 0 rfl rfl rfl hl.1 rfl (lv_room (Nat.le_of_ble_eq_true rfl)) ⟨Nat.le_of_ble_eq_true rfl, Nat.le_of_ble_eq_true rfl⟩ dX6_houseLine_126 (fun r_ w_ H locs hq hP hD hS => ?_)
            obtain ⟨rfl, rfl⟩ := hq
            refine lv_goto (tgt := 202) hx hb dX6_houseLine_129 (by decide) ?_
            cases hrun
            exact retW_v hx hb hr hlocks hP hD hS ⟨rfl, rfl⟩ dX6_houseLine_202
          have hrun := mif_p (bz_nz c_23) hrun
          refine lv_aload_n hx hb dX6_houseLine_103 rfl (lv_at hl 1 rfl) ?_
          refine lv_iconst (v := (5 : Int32)) hx hb dX6_houseLine_104 (by decide) ?_
          refine lv_iconst (v := (1 : Int32)) hx hb dX6_houseLine_105 (by decide) ?_
          obtain ⟨t_51, hc_50, hrun⟩ := mob_s rfl hrun
          refine cWV00 (As := [.int (5 : Int32), .int (1 : Int32)]) (ci := 0) ⟨hx, hb, hml, hown, hts⟩ hOK hz hS hA hP hD (mtX6_tells l D k a Z hOK _ _ _ _ hc_50) (kX6_tells hts q2106 rfl rfl ⟨Nat.le_of_ble_eq_true rfl, Nat.le_of_ble_eq_true rfl⟩) 0 rfl rfl rfl hl.1 rfl (lv_room (Nat.le_of_ble_eq_true rfl)) ⟨Nat.le_of_ble_eq_true rfl, Nat.le_of_ble_eq_true rfl⟩ dX6_houseLine_106 (fun r_ w_ H locs hq hP hD hS => ?_)
          obtain ⟨rfl, rfl⟩ := hq
          refine lv_goto (tgt := 202) hx hb dX6_houseLine_109 (by decide) ?_
          cases hrun
          exact retW_v hx hb hr hlocks hP hD hS ⟨rfl, rfl⟩ dX6_houseLine_202
        have hrun := mif_p (bz_nz c_19) hrun
        refine lv_aload_n hx hb dX6_houseLine_66 rfl (lv_at hl 1 rfl) ?_
        refine lv_iconst (v := (0 : Int32)) hx hb dX6_houseLine_67 (by decide) ?_
        refine lv_iconst (v := (1 : Int32)) hx hb dX6_houseLine_68 (by decide) ?_
        obtain ⟨r_54, t_53, hc_52, hrun⟩ := mo2_s rfl hrun
        refine cWV00 (As := [.int (0 : Int32), .int (1 : Int32)]) (ci := 0) ⟨hx, hb, hml, hown, hts⟩ hOK hz hS hA hP hD (mtX6_figures l D k a Z hOK _ _ _ _ _ hc_52) (kX6_figures hts q2034 rfl rfl ⟨Nat.le_of_ble_eq_true rfl, Nat.le_of_ble_eq_true rfl⟩) 0 rfl rfl rfl hl.1 rfl (lv_room (Nat.le_of_ble_eq_true rfl)) ⟨Nat.le_of_ble_eq_true rfl, Nat.le_of_ble_eq_true rfl⟩ dX6_houseLine_69 (fun r_ w_ H locs hq hP hD hS => ?_)
        obtain ⟨rfl, rfl⟩ := hq
        refine lv_istore_n (lv' := [(2, .int r_54), (1, .int r_3), (0, .ref (a 0))]) hx hb dX6_houseLine_72 rfl hl (by decide) rfl (fun ls hl => ?_)
        refine lv_aload_n hx hb dX6_houseLine_73 rfl (lv_at hl 2 rfl) ?_
        refine va_get (ci := 0) (v := .int (tw_fault t_53)) (C := RX6) (T := TX6) (N := 22) hx hb hts in_X6 hown hK hP 0 rfl rfl 12 (by decide) (hts _ q1914) (fun _ h9 => h9) rfl dX6_houseLine_74 ?_
        refine lv_iconst (v := (-1 : Int32)) hx hb dX6_houseLine_77 (by decide) ?_
        refine lv_icmp_ne (tgt := 91) hx hb dX6_houseLine_78 (by decide) (fun c_55 => ?_) (fun c_55 => ?_)
        · have hrun := mif_n c_55 hrun
          refine lv_goto (tgt := 202) hx hb dX6_houseLine_91 (by decide) ?_
          cases hrun
          exact retW_v hx hb hr hlocks hP hD hS ⟨rfl, rfl⟩ dX6_houseLine_202
        have hrun := mif_p c_55 hrun
        refine lv_aload_n hx hb dX6_houseLine_81 rfl (lv_at hl 2 rfl) ?_
        refine lv_bipush (v := (12 : Int32)) hx hb dX6_houseLine_82 (by decide) ?_
        refine lv_iload_n hx hb dX6_houseLine_84 rfl (lv_at hl 0 rfl) ?_
        refine lv_iadd hx hb dX6_houseLine_85 ?_
        refine lv_bipush (v := (6 : Int32)) hx hb dX6_houseLine_86 (by decide) ?_
        obtain ⟨t_57, hc_56, hrun⟩ := mob_s rfl hrun
        refine cWV00 (As := [.int ((12 : Int32) + r_54), .int (6 : Int32)]) (ci := 0) ⟨hx, hb, hml, hown, hts⟩ hOK hz hS hA hP hD (mtX6_tells l D k a Z hOK _ _ _ _ hc_56) (kX6_tells hts q2106 rfl rfl ⟨Nat.le_of_ble_eq_true rfl, Nat.le_of_ble_eq_true rfl⟩) 0 rfl rfl rfl hl.1 rfl (lv_room (Nat.le_of_ble_eq_true rfl)) ⟨Nat.le_of_ble_eq_true rfl, Nat.le_of_ble_eq_true rfl⟩ dX6_houseLine_88 (fun r_ w_ H locs hq hP hD hS => ?_)
        obtain ⟨rfl, rfl⟩ := hq
        refine lv_goto (tgt := 202) hx hb dX6_houseLine_91 (by decide) ?_
        cases hrun
        exact retW_v hx hb hr hlocks hP hD hS ⟨rfl, rfl⟩ dX6_houseLine_202
      have hrun := mif_p (bz_nz c_15) hrun
      refine lv_aload_n hx hb dX6_houseLine_47 rfl (lv_at hl 1 rfl) ?_
      refine lv_iconst (v := (4 : Int32)) hx hb dX6_houseLine_48 (by decide) ?_
      refine lv_bipush (v := (7 : Int32)) hx hb dX6_houseLine_49 (by decide) ?_
      obtain ⟨t_59, hc_58, hrun⟩ := mob_s rfl hrun
      refine cWV00 (As := [.int (4 : Int32), .int (7 : Int32)]) (ci := 0) ⟨hx, hb, hml, hown, hts⟩ hOK hz hS hA hP hD (mtX6_tells l D k a Z hOK _ _ _ _ hc_58) (kX6_tells hts q2106 rfl rfl ⟨Nat.le_of_ble_eq_true rfl, Nat.le_of_ble_eq_true rfl⟩) 0 rfl rfl rfl hl.1 rfl (lv_room (Nat.le_of_ble_eq_true rfl)) ⟨Nat.le_of_ble_eq_true rfl, Nat.le_of_ble_eq_true rfl⟩ dX6_houseLine_51 (fun r_ w_ H locs hq hP hD hS => ?_)
      obtain ⟨rfl, rfl⟩ := hq
      refine lv_goto (tgt := 202) hx hb dX6_houseLine_54 (by decide) ?_
      cases hrun
      exact retW_v hx hb hr hlocks hP hD hS ⟨rfl, rfl⟩ dX6_houseLine_202
    have hrun := mif_p (bz_nz c_11) hrun
    refine lv_aload_n hx hb dX6_houseLine_31 rfl (lv_at hl 1 rfl) ?_
    obtain ⟨t_61, hc_60, hrun⟩ := mob_s rfl hrun
    refine cWV00 (As := []) (ci := 0) ⟨hx, hb, hml, hown, hts⟩ hOK hz hS hA hP hD (mtX6_holeLine l D k a Z hOK _ _ hc_60) (kX6_holeLine hts q2101 rfl rfl ⟨Nat.le_of_ble_eq_true rfl, Nat.le_of_ble_eq_true rfl⟩) 0 rfl rfl rfl hl.1 rfl (lv_room (Nat.le_of_ble_eq_true rfl)) ⟨Nat.le_of_ble_eq_true rfl, Nat.le_of_ble_eq_true rfl⟩ dX6_houseLine_32 (fun r_ w_ H locs hq hP hD hS => ?_)
    obtain ⟨rfl, rfl⟩ := hq
    refine lv_goto (tgt := 202) hx hb dX6_houseLine_35 (by decide) ?_
    cases hrun
    exact retW_v hx hb hr hlocks hP hD hS ⟨rfl, rfl⟩ dX6_houseLine_202
  have hrun := mif_p (bz_nz c_7) hrun
  refine lv_aload_n hx hb dX6_houseLine_14 rfl (lv_at hl 1 rfl) ?_
  refine lv_iload_n hx hb dX6_houseLine_15 rfl (lv_at hl 0 rfl) ?_
  obtain ⟨t_63, hc_62, hrun⟩ := mob_s rfl hrun
  refine cWV00 (As := [.int r_3]) (ci := 0) ⟨hx, hb, hml, hown, hts⟩ hOK hz hS hA hP hD (mtX6_guestLine l D k a Z hOK hStr _ _ _ hc_62) (kX6_guestLine hts q2087 rfl rfl ⟨Nat.le_of_ble_eq_true rfl, Nat.le_of_ble_eq_true rfl⟩) 0 rfl rfl rfl hl.1 rfl (lv_room (Nat.le_of_ble_eq_true rfl)) ⟨Nat.le_of_ble_eq_true rfl, Nat.le_of_ble_eq_true rfl⟩ dX6_houseLine_16 (fun r_ w_ H locs hq hP hD hS => ?_)
  obtain ⟨rfl, rfl⟩ := hq
  refine lv_goto (tgt := 202) hx hb dX6_houseLine_19 (by decide) ?_
  cases hrun
  exact retW_v hx hb hr hlocks hP hD hS ⟨rfl, rfl⟩ dX6_houseLine_202
