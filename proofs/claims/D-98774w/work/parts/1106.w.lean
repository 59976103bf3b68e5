/-! walks: X6_weeksBy, X6_look, X6_keenest, X6_alike -/
def rX6_weeksBy : Room := { frames := 0, cells := 0, slots := 0, locals := 0 }
noncomputable def fX6_weeksBy_L20 (p1 : Int32) (K_10 : Tw → Option (Int32 × Tw)) (x3_3 : Int32) : Nat → Int32 → Tw → Option (Int32 × Tw)
  | 0, _, _ => none
  | n + 1, x4_14, t_15 =>
    if p1 ≤ x4_14 then
      K_10 t_15
    else
      mck x3_3 52 <|
      if ((tw_fits t_15) (Int32.toNatClampNeg x3_3)) = true then
        mck x4_14 400 <|
        mjn (fun (y_22 : Bool) =>
        mck (x4_14 + (1 : Int32)) 400 <|
        mjn (fun (y_27 : Bool) =>
        if (bz y_22) = (bz y_27) then
          mck x3_3 52 <|
          mlt (tw_s_fits t_15 (updb (tw_fits t_15) (Int32.toNatClampNeg x3_3) true)) fun t_33 =>
          fX6_weeksBy_L20 p1 K_10 x3_3 n (x4_14 + (2 : Int32)) t_33
        else
          mck x3_3 52 <|
          mlt (tw_s_fits t_15 (updb (tw_fits t_15) (Int32.toNatClampNeg x3_3) false)) fun t_31 =>
          fX6_weeksBy_L20 p1 K_10 x3_3 n (x4_14 + (2 : Int32)) t_31) fun K_28 =>
        if ((tw_tape t_15) (Int32.toNatClampNeg (x4_14 + (1 : Int32)))) = (1 : Int32) then
          K_28 true
        else
          K_28 false) fun K_23 =>
        if ((tw_tape t_15) (Int32.toNatClampNeg x4_14)) < x3_3 then
          K_23 false
        else
          K_23 true
      else
        K_10 t_15
noncomputable def fX6_weeksBy_L4 (p1 : Int32) : Nat → Int32 → Int32 → Tw → Option (Int32 × Tw)
  | 0, _, _, _ => none
  | n + 1, x2_2, x3_3, t_4 =>
    if (52 : Int32) ≤ x3_3 then
      some (x2_2, t_4)
    else
      mck x3_3 52 <|
      mlt (tw_s_fits t_4 (updb (tw_fits t_4) (Int32.toNatClampNeg x3_3) true)) fun t_7 =>
      mjn (fun (t_9 : Tw) =>
      mck x3_3 52 <|
      if ((tw_fits t_9) (Int32.toNatClampNeg x3_3)) = true then
        fX6_weeksBy_L4 p1 n (x2_2 + (1 : Int32)) (x3_3 + (1 : Int32)) t_9
      else
        fX6_weeksBy_L4 p1 n (x2_2 + (0 : Int32)) (x3_3 + (1 : Int32)) t_9) fun K_10 =>
      fX6_weeksBy_L20 p1 K_10 x3_3 mFU (0 : Int32) t_7
noncomputable def fX6_weeksBy (t : Tw) (p1 : Int32) : Option (Int32 × Tw) :=
  fX6_weeksBy_L4 p1 mFU (0 : Int32) (0 : Int32) t
theorem kX6_weeksBy {R : Room} {s : State} {args : Array Value} {own : String} {idx mc ms : Nat} {rm : Room} (hts : ∀ w ∈ lw_all, w.before args s = true) (hl : Cond.methodLink own idx yX6_weeksBy ∈ lw_all) (hrc : rm.cells = mc) (hrs : rm.slots = ms) (hR : rm.frames + 1 ≤ R.frames ∧ 8 + (5 + 11) + rm.locals ≤ R.locals) : CallW R s args own RX6 idx yX6_weeksBy cX6_weeksBy 5 (some .int) (ws_ yX6_weeksBy cX6_weeksBy 5 (some .int)) rm mc ms 1 :=
  cwV 1 hts (lw_V hl q2389 qs101 q115 q2390) rfl hrc hrs (by decide +kernel) hR
set_option maxHeartbeats 4000000 in
set_option maxRecDepth 100000 in
theorem mtX6_weeksBy (l : Launch) (D : va_G) (k : Nat → ClassId) (a : Nat → Nat) (Z : zZ) (hOK : zOK D zCl (zTys k) Z) (t : Tw) (p1 : Int32) (r : Int32) (tt : Tw) (hrun : fX6_weeksBy t p1 = some (r, tt)) :
    CtW l yX6_weeksBy cX6_weeksBy 5 (some .int) rX6_weeksBy Z D zCl (cT k a t) [.ref (a 0), .int p1] (fun r' w' => r' = (some (.int r)) ∧ w' = cT k a tt) 0 0 := by
  refine CtW.of (by decide) (Nat.le_of_ble_eq_true rfl) ?_
  intro p e s m args below meth c A hE hA hP hD hS hz ls hl
  obtain ⟨hx, hb, hr, hml, hown, hts, hlocks, hname⟩ := hE
  have hown : s.vm.findClass RX6 = some m.cls := hown
  have hK := hOK.1 _ _ _ hz
  have hl : lv_has ls 5 [(0, .ref (a 0)), (1, .int p1)] := hl
  unfold fX6_weeksBy at hrun
  refine lv_iconst (v := (0 : Int32)) hx hb dX6_weeksBy_0 (by decide) ?_
  refine lv_istore_n (lv' := [(2, .int (0 : Int32)), (0, .ref (a 0)), (1, .int p1)]) hx hb dX6_weeksBy_1 rfl hl (by decide) rfl (fun ls hl => ?_)
  refine lv_iconst (v := (0 : Int32)) hx hb dX6_weeksBy_2 (by decide) ?_
  refine lv_istore_n (lv' := [(3, .int (0 : Int32)), (2, .int (0 : Int32)), (0, .ref (a 0)), (1, .int p1)]) hx hb dX6_weeksBy_3 rfl hl (by decide) rfl (fun ls hl => ?_)
  have hL_1 : ∀ n : Nat, ∀ (x2_2 : Int32) (x3_3 : Int32) (t_4 : Tw), ∀ (H : Heap) (locs : List Loc), va_P D zCl (cT k a t_4) H → va_D A (cT k a t_4) → va_S A s.heap H locs → ∀ ls : Array Slot, lv_has ls 5 [(0, .ref (a 0)), (1, .int p1), (2, .int x2_2), (3, .int x3_3)] → fX6_weeksBy_L4 p1 n x2_2 x3_3 t_4 = some (r, tt) → W p l e rX6_weeksBy s m args below meth c H locs 0 0 (MQ below (QWr (fun r' w' => r' = (some (.int r)) ∧ w' = cT k a tt) D zCl A) args s 0 0 A) (F0 m 4 ls []) := by
    intro n
    induction n with
    | zero =>
      intro x2_2 x3_3 t_4 H locs hP hD hS ls hl hrun
      exact nomatch hrun
    | succ n ih =>
      intro x2_2 x3_3 t_4 H locs hP hD hS ls hl hrun
      rw [fX6_weeksBy_L4.eq_2] at hrun
      refine lv_iload_n hx hb dX6_weeksBy_4 rfl (lv_at hl 3 rfl) ?_
      refine lv_bipush (v := (52 : Int32)) hx hb dX6_weeksBy_5 (by decide) ?_
      refine lv_icmp_ge (tgt := 112) hx hb dX6_weeksBy_7 (by decide) (fun c_5 => ?_) (fun c_5 => ?_)
      · have hrun := mif_p c_5 hrun
        refine lv_iload_n hx hb dX6_weeksBy_112 rfl (lv_at hl 2 rfl) ?_
        cases hrun
        exact retW_i hx hb hr hlocks hP hD hS ⟨rfl, rfl⟩ dX6_weeksBy_113
      have hrun := mif_n c_5 hrun
      refine lv_aload_n hx hb dX6_weeksBy_10 rfl (lv_at hl 0 rfl) ?_
      refine va_get (ci := 0) (v := .ref (a 9)) (C := RX6) (T := TX6) (N := 22) hx hb hts in_X6 hown hK hP 0 rfl rfl 21 (by decide) (hts _ q1923) (fun _ h9 => h9) rfl dX6_weeksBy_11 ?_
      refine lv_iload_n hx hb dX6_weeksBy_14 rfl (lv_at hl 3 rfl) ?_
      refine lv_iconst (v := (1 : Int32)) hx hb dX6_weeksBy_15 (by decide) ?_
      obtain ⟨hb_6, hrun⟩ := mck_s rfl hrun
      refine va_zast (x := bz true) hx hb hK hP hD hS 9 1 rfl rfl hb_6 dX6_weeksBy_16 (fun H locs hP hD hS => ?_)
      rw [bz_upd] at hP hD
      have hP : va_P D zCl (cT k a (tw_s_fits t_4 (updb (tw_fits t_4) (Int32.toNatClampNeg x3_3) true))) H := hP
      have hD : va_D A (cT k a (tw_s_fits t_4 (updb (tw_fits t_4) (Int32.toNatClampNeg x3_3) true))) := hD
      obtain ⟨t_7, et_7⟩ : ∃ z : Tw, z = (tw_s_fits t_4 (updb (tw_fits t_4) (Int32.toNatClampNeg x3_3) true)) := ⟨_, rfl⟩
      rw [← et_7] at hP hD
      have hrun := mlt_s hrun t_7 et_7
      refine lv_iconst (v := (0 : Int32)) hx hb dX6_weeksBy_17 (by decide) ?_
      refine lv_istore (lv' := [(4, .int (0 : Int32)), (0, .ref (a 0)), (1, .int p1), (2, .int x2_2), (3, .int x3_3)]) hx hb dX6_weeksBy_18 hl (by decide) rfl (fun ls hl => ?_)
      obtain ⟨K_10, hK_10, hrun⟩ := mjn_s hrun
      have hj_8 : ∀ (t_9 : Tw), ∀ (H : Heap) (locs : List Loc), va_P D zCl (cT k a t_9) H → va_D A (cT k a t_9) → va_S A s.heap H locs → ∀ ls : Array Slot, lv_has ls 5 [(0, .ref (a 0)), (1, .int p1), (2, .int x2_2), (3, .int x3_3)] → K_10 t_9 = some (r, tt) → W p l e rX6_weeksBy s m args below meth c H locs 0 0 (MQ below (QWr (fun r' w' => r' = (some (.int r)) ∧ w' = cT k a tt) D zCl A) args s 0 0 A) (F0 m 89 ls []) := by
        intro t_9 H locs hP hD hS ls hl hrun
        rw [hK_10] at hrun
        refine lv_iload_n hx hb dX6_weeksBy_89 rfl (lv_at hl 2 rfl) ?_
        refine lv_aload_n hx hb dX6_weeksBy_90 rfl (lv_at hl 0 rfl) ?_
        refine va_get (ci := 0) (v := .ref (a 9)) (C := RX6) (T := TX6) (N := 22) hx hb hts in_X6 hown hK hP 0 rfl rfl 21 (by decide) (hts _ q1923) (fun _ h9 => h9) rfl dX6_weeksBy_91 ?_
        refine lv_iload_n hx hb dX6_weeksBy_94 rfl (lv_at hl 3 rfl) ?_
        obtain ⟨hb_11, hrun⟩ := mck_s rfl hrun
        refine va_zald hx hb hK hP 9 1 rfl rfl hb_11 dX6_weeksBy_95 ?_
        refine lv_if_eq (tgt := 103) hx hb dX6_weeksBy_96 (by decide) (fun c_12 => ?_) (fun c_12 => ?_)
        · have hrun := mif_n (bz_z c_12) hrun
          refine lv_iconst (v := (0 : Int32)) hx hb dX6_weeksBy_103 (by decide) ?_
          refine lv_iadd hx hb dX6_weeksBy_104 ?_
          refine lv_istore_n (lv' := [(2, .int (x2_2 + (0 : Int32))), (0, .ref (a 0)), (1, .int p1), (3, .int x3_3)]) hx hb dX6_weeksBy_105 rfl hl (by decide) rfl (fun ls hl => ?_)
          refine lv_iinc (v := (x3_3 + (1 : Int32))) (lv' := [(3, .int (x3_3 + (1 : Int32))), (2, .int (x2_2 + (0 : Int32))), (0, .ref (a 0)), (1, .int p1)]) hx hb dX6_weeksBy_106 hl (k := 3) rfl rfl (by decide) rfl (fun ls hl => ?_)
          refine lv_goto (tgt := 4) hx hb dX6_weeksBy_109 (by decide) ?_
          exact ih (x2_2 + (0 : Int32)) (x3_3 + (1 : Int32)) t_9 _ _ hP hD hS ls (lv_sub hl [2, 3, 1, 0] rfl) hrun
        have hrun := mif_p (bz_nz c_12) hrun
        refine lv_iconst (v := (1 : Int32)) hx hb dX6_weeksBy_99 (by decide) ?_
        refine lv_goto (tgt := 104) hx hb dX6_weeksBy_100 (by decide) ?_
        refine lv_iadd hx hb dX6_weeksBy_104 ?_
        refine lv_istore_n (lv' := [(2, .int (x2_2 + (1 : Int32))), (0, .ref (a 0)), (1, .int p1), (3, .int x3_3)]) hx hb dX6_weeksBy_105 rfl hl (by decide) rfl (fun ls hl => ?_)
        refine lv_iinc (v := (x3_3 + (1 : Int32))) (lv' := [(3, .int (x3_3 + (1 : Int32))), (2, .int (x2_2 + (1 : Int32))), (0, .ref (a 0)), (1, .int p1)]) hx hb dX6_weeksBy_106 hl (k := 3) rfl rfl (by decide) rfl (fun ls hl => ?_)
        refine lv_goto (tgt := 4) hx hb dX6_weeksBy_109 (by decide) ?_
        exact ih (x2_2 + (1 : Int32)) (x3_3 + (1 : Int32)) t_9 _ _ hP hD hS ls (lv_sub hl [2, 3, 1, 0] rfl) hrun
      have hL_13 : ∀ n : Nat, ∀ (x4_14 : Int32) (t_15 : Tw), ∀ (H : Heap) (locs : List Loc), va_P D zCl (cT k a t_15) H → va_D A (cT k a t_15) → va_S A s.heap H locs → ∀ ls : Array Slot, lv_has ls 5 [(0, .ref (a 0)), (1, .int p1), (2, .int x2_2), (3, .int x3_3), (4, .int x4_14)] → fX6_weeksBy_L20 p1 K_10 x3_3 n x4_14 t_15 = some (r, tt) → W p l e rX6_weeksBy s m args below meth c H locs 0 0 (MQ below (QWr (fun r' w' => r' = (some (.int r)) ∧ w' = cT k a tt) D zCl A) args s 0 0 A) (F0 m 20 ls []) := by
        intro n
        induction n with
        | zero =>
          intro x4_14 t_15 H locs hP hD hS ls hl hrun
          exact nomatch hrun
        | succ n ih =>
          intro x4_14 t_15 H locs hP hD hS ls hl hrun
          rw [fX6_weeksBy_L20.eq_2] at hrun
          refine lv_iload hx hb dX6_weeksBy_20 (lv_at hl 4 rfl) ?_
          refine lv_iload_n hx hb dX6_weeksBy_22 rfl (lv_at hl 1 rfl) ?_
          refine lv_icmp_ge (tgt := 89) hx hb dX6_weeksBy_23 (by decide) (fun c_16 => ?_) (fun c_16 => ?_)
          · have hrun := mif_p c_16 hrun
            exact hj_8 t_15 _ _ hP hD hS ls (lv_sub hl [0, 1, 2, 3] rfl) hrun
          have hrun := mif_n c_16 hrun
          refine lv_aload_n hx hb dX6_weeksBy_26 rfl (lv_at hl 0 rfl) ?_
          refine va_get (ci := 0) (v := .ref (a 9)) (C := RX6) (T := TX6) (N := 22) hx hb hts in_X6 hown hK hP 0 rfl rfl 21 (by decide) (hts _ q1923) (fun _ h9 => h9) rfl dX6_weeksBy_27 ?_
          refine lv_iload_n hx hb dX6_weeksBy_30 rfl (lv_at hl 3 rfl) ?_
          obtain ⟨hb_17, hrun⟩ := mck_s rfl hrun
          refine va_zald hx hb hK hP 9 1 rfl rfl hb_17 dX6_weeksBy_31 ?_
          refine lv_if_eq (tgt := 89) hx hb dX6_weeksBy_32 (by decide) (fun c_18 => ?_) (fun c_18 => ?_)
          · have hrun := mif_n (bz_z c_18) hrun
            exact hj_8 t_15 _ _ hP hD hS ls (lv_sub hl [0, 1, 2, 3] rfl) hrun
          have hrun := mif_p (bz_nz c_18) hrun
          refine lv_aload_n hx hb dX6_weeksBy_35 rfl (lv_at hl 0 rfl) ?_
          refine va_get (ci := 0) (v := .ref (a 9)) (C := RX6) (T := TX6) (N := 22) hx hb hts in_X6 hown hK hP 0 rfl rfl 21 (by decide) (hts _ q1923) (fun _ h9 => h9) rfl dX6_weeksBy_36 ?_
          refine lv_iload_n hx hb dX6_weeksBy_39 rfl (lv_at hl 3 rfl) ?_
          refine lv_aload_n hx hb dX6_weeksBy_40 rfl (lv_at hl 0 rfl) ?_
          refine va_get (ci := 0) (v := .ref (a 5)) (C := RX6) (T := TX6) (N := 22) hx hb hts in_X6 hown hK hP 0 rfl rfl 7 (by decide) (hts _ q1909) (fun _ h9 => h9) rfl dX6_weeksBy_41 ?_
          refine lv_iload hx hb dX6_weeksBy_44 (lv_at hl 4 rfl) ?_
          obtain ⟨hb_19, hrun⟩ := mck_s rfl hrun
          refine va_iald hx hb hK hP 5 0 rfl rfl hb_19 dX6_weeksBy_46 ?_
          refine lv_iload_n hx hb dX6_weeksBy_47 rfl (lv_at hl 3 rfl) ?_
          obtain ⟨K_23, hK_23, hrun⟩ := mjn_s hrun
          have hj_21 : ∀ (y_22 : Bool), ∀ (H : Heap) (locs : List Loc), va_P D zCl (cT k a t_15) H → va_D A (cT k a t_15) → va_S A s.heap H locs → ∀ ls : Array Slot, lv_has ls 5 [(0, .ref (a 0)), (1, .int p1), (2, .int x2_2), (3, .int x3_3), (4, .int x4_14)] → K_23 y_22 = some (r, tt) → W p l e rX6_weeksBy s m args below meth c H locs 0 0 (MQ below (QWr (fun r' w' => r' = (some (.int r)) ∧ w' = cT k a tt) D zCl A) args s 0 0 A) (F0 m 56 ls [.int (bz y_22), .int x3_3, .ref (a 9)]) := by
            intro y_22 H locs hP hD hS ls hl hrun
            rw [hK_23] at hrun
            refine lv_aload_n hx hb dX6_weeksBy_56 rfl (lv_at hl 0 rfl) ?_
            refine va_get (ci := 0) (v := .ref (a 5)) (C := RX6) (T := TX6) (N := 22) hx hb hts in_X6 hown hK hP 0 rfl rfl 7 (by decide) (hts _ q1909) (fun _ h9 => h9) rfl dX6_weeksBy_57 ?_
            refine lv_iload hx hb dX6_weeksBy_60 (lv_at hl 4 rfl) ?_
            refine lv_iconst (v := (1 : Int32)) hx hb dX6_weeksBy_62 (by decide) ?_
            refine lv_iadd hx hb dX6_weeksBy_63 ?_
            obtain ⟨hb_24, hrun⟩ := mck_s rfl hrun
            refine va_iald hx hb hK hP 5 0 rfl rfl hb_24 dX6_weeksBy_64 ?_
            refine lv_iconst (v := (1 : Int32)) hx hb dX6_weeksBy_65 (by decide) ?_
            obtain ⟨K_28, hK_28, hrun⟩ := mjn_s hrun
            have hj_26 : ∀ (y_27 : Bool), ∀ (H : Heap) (locs : List Loc), va_P D zCl (cT k a t_15) H → va_D A (cT k a t_15) → va_S A s.heap H locs → ∀ ls : Array Slot, lv_has ls 5 [(0, .ref (a 0)), (1, .int p1), (2, .int x2_2), (3, .int x3_3), (4, .int x4_14)] → K_28 y_27 = some (r, tt) → W p l e rX6_weeksBy s m args below meth c H locs 0 0 (MQ below (QWr (fun r' w' => r' = (some (.int r)) ∧ w' = cT k a tt) D zCl A) args s 0 0 A) (F0 m 74 ls [.int (bz y_27), .int (bz y_22), .int x3_3, .ref (a 9)]) := by
              intro y_27 H locs hP hD hS ls hl hrun
              rw [hK_28] at hrun
              refine lv_icmp_ne (tgt := 81) hx hb dX6_weeksBy_74 (by decide) (fun c_29 => ?_) (fun c_29 => ?_)
              · have hrun := mif_n c_29 hrun
                refine lv_iconst (v := (0 : Int32)) hx hb dX6_weeksBy_81 (by decide) ?_
                obtain ⟨hb_30, hrun⟩ := mck_s rfl hrun
                refine va_zast (x := bz false) hx hb hK hP hD hS 9 1 rfl rfl hb_30 dX6_weeksBy_82 (fun H locs hP hD hS => ?_)
                rw [bz_upd] at hP hD
                have hP : va_P D zCl (cT k a (tw_s_fits t_15 (updb (tw_fits t_15) (Int32.toNatClampNeg x3_3) false))) H := hP
                have hD : va_D A (cT k a (tw_s_fits t_15 (updb (tw_fits t_15) (Int32.toNatClampNeg x3_3) false))) := hD
                obtain ⟨t_31, et_31⟩ : ∃ z : Tw, z = (tw_s_fits t_15 (updb (tw_fits t_15) (Int32.toNatClampNeg x3_3) false)) := ⟨_, rfl⟩
                rw [← et_31] at hP hD
                have hrun := mlt_s hrun t_31 et_31
                refine lv_iinc (v := (x4_14 + (2 : Int32))) (lv' := [(4, .int (x4_14 + (2 : Int32))), (0, .ref (a 0)), (1, .int p1), (2, .int x2_2), (3, .int x3_3)]) hx hb dX6_weeksBy_83 hl (k := 4) rfl rfl (by decide) rfl (fun ls hl => ?_)
                refine lv_goto (tgt := 20) hx hb dX6_weeksBy_86 (by decide) ?_
                exact ih (x4_14 + (2 : Int32)) t_31 _ _ hP hD hS ls (lv_sub hl [1, 2, 3, 4, 0] rfl) hrun
              have hrun := mif_p c_29 hrun
              refine lv_iconst (v := (1 : Int32)) hx hb dX6_weeksBy_77 (by decide) ?_
              refine lv_goto (tgt := 82) hx hb dX6_weeksBy_78 (by decide) ?_
              obtain ⟨hb_32, hrun⟩ := mck_s rfl hrun
              refine va_zast (x := bz true) hx hb hK hP hD hS 9 1 rfl rfl hb_32 dX6_weeksBy_82 (fun H locs hP hD hS => ?_)
              rw [bz_upd] at hP hD
              have hP : va_P D zCl (cT k a (tw_s_fits t_15 (updb (tw_fits t_15) (Int32.toNatClampNeg x3_3) true))) H := hP
              have hD : va_D A (cT k a (tw_s_fits t_15 (updb (tw_fits t_15) (Int32.toNatClampNeg x3_3) true))) := hD
              obtain ⟨t_33, et_33⟩ : ∃ z : Tw, z = (tw_s_fits t_15 (updb (tw_fits t_15) (Int32.toNatClampNeg x3_3) true)) := ⟨_, rfl⟩
              rw [← et_33] at hP hD
              have hrun := mlt_s hrun t_33 et_33
              refine lv_iinc (v := (x4_14 + (2 : Int32))) (lv' := [(4, .int (x4_14 + (2 : Int32))), (0, .ref (a 0)), (1, .int p1), (2, .int x2_2), (3, .int x3_3)]) hx hb dX6_weeksBy_83 hl (k := 4) rfl rfl (by decide) rfl (fun ls hl => ?_)
              refine lv_goto (tgt := 20) hx hb dX6_weeksBy_86 (by decide) ?_
              exact ih (x4_14 + (2 : Int32)) t_33 _ _ hP hD hS ls (lv_sub hl [1, 2, 3, 4, 0] rfl) hrun
            refine lv_icmp_ne (tgt := 73) hx hb dX6_weeksBy_66 (by decide) (fun c_25 => ?_) (fun c_25 => ?_)
            · have hrun := mif_n c_25 hrun
              refine lv_iconst (v := (0 : Int32)) hx hb dX6_weeksBy_73 (by decide) ?_
              exact hj_26 false _ _ hP hD hS ls (lv_sub hl [0, 1, 2, 3, 4] rfl) hrun
            have hrun := mif_p c_25 hrun
            refine lv_iconst (v := (1 : Int32)) hx hb dX6_weeksBy_69 (by decide) ?_
            refine lv_goto (tgt := 74) hx hb dX6_weeksBy_70 (by decide) ?_
            exact hj_26 true _ _ hP hD hS ls (lv_sub hl [0, 1, 2, 3, 4] rfl) hrun
          refine lv_icmp_lt (tgt := 55) hx hb dX6_weeksBy_48 (by decide) (fun c_20 => ?_) (fun c_20 => ?_)
          · have hrun := mif_p c_20 hrun
            refine lv_iconst (v := (0 : Int32)) hx hb dX6_weeksBy_55 (by decide) ?_
            exact hj_21 false _ _ hP hD hS ls (lv_sub hl [0, 1, 2, 3, 4] rfl) hrun
          have hrun := mif_n c_20 hrun
          refine lv_iconst (v := (1 : Int32)) hx hb dX6_weeksBy_51 (by decide) ?_
          refine lv_goto (tgt := 56) hx hb dX6_weeksBy_52 (by decide) ?_
          exact hj_21 true _ _ hP hD hS ls (lv_sub hl [0, 1, 2, 3, 4] rfl) hrun
      exact hL_13 mFU (0 : Int32) t_7 _ _ hP hD hS ls (lv_sub hl [1, 2, 3, 4, 0] rfl) hrun
  exact hL_1 mFU (0 : Int32) (0 : Int32) t _ _ hP hD hS ls (lv_sub hl [2, 3, 1, 0] rfl) hrun
def rX6_look : Room := { frames := 1, cells := 0, slots := 0, locals := 24 }
noncomputable def fX6_look_L49 (t_11 : Tw) (r_12 : Int32) : Nat → Int32 → Int32 → Int32 → Int32 → Option (Int32 × Tw)
  | 0, _, _, _, _ => none
  | n + 1, x3_14, x4_15, x5_16, x6_17 =>
    if (52 : Int32) ≤ x6_17 then
      some (x3_14, t_11)
    else
      if r_12 ≤ (1 : Int32) then
        some (x3_14, t_11)
      else
        mck x6_17 52 <|
        mjn (fun (y_23 : Bool) =>
        mob (fX6_greater (x5_16 + (bz y_23)) (r_12 - (x5_16 + (bz y_23)))) fun r_26 =>
        if r_26 < x4_15 then
          mob (fX6_greater (x5_16 + (bz y_23)) (r_12 - (x5_16 + (bz y_23)))) fun r_29 =>
          fX6_look_L49 t_11 r_12 n x6_17 r_29 (x5_16 + (bz y_23)) (x6_17 + (1 : Int32))
        else
          fX6_look_L49 t_11 r_12 n x3_14 x4_15 (x5_16 + (bz y_23)) (x6_17 + (1 : Int32))) fun K_24 =>
        if ((tw_fits t_11) (Int32.toNatClampNeg x6_17)) = true then
          K_24 true
        else
          K_24 false
noncomputable def fX6_look (t : Tw) : Option (Int32 × Tw) :=
  mo2 (fX6_heard t (52 : Int32)) fun r_3 t_2 =>
  mjn (fun (y_6 : Bool) =>
  mlt (tw_s_thrown t_2 (bz y_6)) fun t_8 =>
  if (tw_thrown t_8) ≤ (0 : Int32) then
    mo2 (fX6_weeksBy t_8 r_3) fun r_12 t_11 =>
    fX6_look_L49 t_11 r_12 mFU (-1 : Int32) (2000000000 : Int32) (0 : Int32) (0 : Int32)
  else
    some ((0 : Int32), t_8)) fun K_7 =>
  if r_3 = (-1 : Int32) then
    K_7 true
  else
    K_7 false
theorem kX6_look {R : Room} {s : State} {args : Array Value} {own : String} {idx mc ms : Nat} {rm : Room} (hts : ∀ w ∈ lw_all, w.before args s = true) (hl : Cond.methodLink own idx yX6_look ∈ lw_all) (hrc : rm.cells = mc) (hrs : rm.slots = ms) (hR : rm.frames + 1 ≤ R.frames ∧ 8 + (7 + 11) + rm.locals ≤ R.locals) : CallW R s args own RX6 idx yX6_look cX6_look 7 (some .int) (ws_ yX6_look cX6_look 7 (some .int)) rm mc ms 0 :=
  cwV 0 hts (lw_V hl q2392 q2393 q115 q2394) rfl hrc hrs (by decide +kernel) hR
set_option maxHeartbeats 4000000 in
set_option maxRecDepth 100000 in
theorem mtX6_look (l : Launch) (D : va_G) (k : Nat → ClassId) (a : Nat → Nat) (Z : zZ) (hOK : zOK D zCl (zTys k) Z) (t : Tw) (r : Int32) (tt : Tw) (hrun : fX6_look t = some (r, tt)) :
    CtW l yX6_look cX6_look 7 (some .int) rX6_look Z D zCl (cT k a t) [.ref (a 0)] (fun r' w' => r' = (some (.int r)) ∧ w' = cT k a tt) 0 0 := by
  refine CtW.of (by decide) (Nat.le_of_ble_eq_true rfl) ?_
  intro p e s m args below meth c A hE hA hP hD hS hz ls hl
  obtain ⟨hx, hb, hr, hml, hown, hts, hlocks, hname⟩ := hE
  have hown : s.vm.findClass RX6 = some m.cls := hown
  have hK := hOK.1 _ _ _ hz
  have hl : lv_has ls 7 [(0, .ref (a 0))] := hl
  unfold fX6_look at hrun
  refine lv_aload_n hx hb dX6_look_0 rfl (lv_at hl 0 rfl) ?_
  refine lv_bipush (v := (52 : Int32)) hx hb dX6_look_1 (by decide) ?_
  obtain ⟨r_3, t_2, hc_1, hrun⟩ := mo2_s rfl hrun
  refine cWV00 (As := [.int (52 : Int32)]) (ci := 0) ⟨hx, hb, hml, hown, hts⟩ hOK hz hS hA hP hD (mtX6_heard l D k a Z hOK _ _ _ _ hc_1) (kX6_heard hts q2371 rfl rfl ⟨Nat.le_of_ble_eq_true rfl, Nat.le_of_ble_eq_true rfl⟩) 0 rfl rfl rfl hl.1 rfl (lv_room (Nat.le_of_ble_eq_true rfl)) ⟨Nat.le_of_ble_eq_true rfl, Nat.le_of_ble_eq_true rfl⟩ dX6_look_3 (fun r_ w_ H locs hq hP hD hS => ?_)
  obtain ⟨rfl, rfl⟩ := hq
  refine lv_istore_n (lv' := [(1, .int r_3), (0, .ref (a 0))]) hx hb dX6_look_6 rfl hl (by decide) rfl (fun ls hl => ?_)
  refine lv_aload_n hx hb dX6_look_7 rfl (lv_at hl 1 rfl) ?_
  refine lv_iload_n hx hb dX6_look_8 rfl (lv_at hl 0 rfl) ?_
  refine lv_iconst (v := (-1 : Int32)) hx hb dX6_look_9 (by decide) ?_
  obtain ⟨K_7, hK_7, hrun⟩ := mjn_s hrun
  have hj_5 : ∀ (y_6 : Bool), ∀ (H : Heap) (locs : List Loc), va_P D zCl (cT k a t_2) H → va_D A (cT k a t_2) → va_S A s.heap H locs → ∀ ls : Array Slot, lv_has ls 7 [(0, .ref (a 0)), (1, .int r_3)] → K_7 y_6 = some (r, tt) → W p l e rX6_look s m args below meth c H locs 0 0 (MQ below (QWr (fun r' w' => r' = (some (.int r)) ∧ w' = cT k a tt) D zCl A) args s 0 0 A) (F0 m 18 ls [.int (bz y_6), .ref (a 0)]) := by
    intro y_6 H locs hP hD hS ls hl hrun
    rw [hK_7] at hrun
    refine va_put (ci := 0) (v := .int (bz y_6)) (ty := tyX6 0) (C := RX6) (T := TX6) (N := 22) hx hb hts in_X6 tyX6 tyX6_ok nmX6 hown hK hP hD hS 0 rfl rfl 0 (by decide) (hts _ q1902) (fun _ h9 => h9) rfl (tyX6_ok 0 (by decide)) rfl rfl (Nat.le_of_ble_eq_true rfl) dX6_look_18 (fun H locs hP hD hS => ?_)
    have hP : va_P D zCl (cT k a (tw_s_thrown t_2 (bz y_6))) H := hP
    have hD : va_D A (cT k a (tw_s_thrown t_2 (bz y_6))) := hD
    obtain ⟨t_8, et_8⟩ : ∃ z : Tw, z = (tw_s_thrown t_2 (bz y_6)) := ⟨_, rfl⟩
    rw [← et_8] at hP hD
    have hrun := mlt_s hrun t_8 et_8
    refine lv_aload_n hx hb dX6_look_21 rfl (lv_at hl 0 rfl) ?_
    refine va_get (ci := 0) (v := .int (tw_thrown t_8)) (C := RX6) (T := TX6) (N := 22) hx hb hts in_X6 hown hK hP 0 rfl rfl 0 (by decide) (hts _ q1902) (fun _ h9 => h9) rfl dX6_look_22 ?_
    refine lv_if_le (tgt := 30) hx hb dX6_look_25 (by decide) (fun c_9 => ?_) (fun c_9 => ?_)
    · have hrun := mif_p c_9 hrun
      refine lv_aload_n hx hb dX6_look_30 rfl (lv_at hl 0 rfl) ?_
      refine lv_iload_n hx hb dX6_look_31 rfl (lv_at hl 1 rfl) ?_
      obtain ⟨r_12, t_11, hc_10, hrun⟩ := mo2_s rfl hrun
      refine cWV00 (As := [.int r_3]) (ci := 0) ⟨hx, hb, hml, hown, hts⟩ hOK hz hS hA hP hD (mtX6_weeksBy l D k a Z hOK _ _ _ _ hc_10) (kX6_weeksBy hts q2387 rfl rfl ⟨Nat.le_of_ble_eq_true rfl, Nat.le_of_ble_eq_true rfl⟩) 0 rfl rfl rfl hl.1 rfl (lv_room (Nat.le_of_ble_eq_true rfl)) ⟨Nat.le_of_ble_eq_true rfl, Nat.le_of_ble_eq_true rfl⟩ dX6_look_32 (fun r_ w_ H locs hq hP hD hS => ?_)
      obtain ⟨rfl, rfl⟩ := hq
      refine lv_istore_n (lv' := [(2, .int r_12), (0, .ref (a 0)), (1, .int r_3)]) hx hb dX6_look_35 rfl hl (by decide) rfl (fun ls hl => ?_)
      refine lv_iconst (v := (-1 : Int32)) hx hb dX6_look_36 (by decide) ?_
      refine lv_istore_n (lv' := [(3, .int (-1 : Int32)), (2, .int r_12), (0, .ref (a 0)), (1, .int r_3)]) hx hb dX6_look_37 rfl hl (by decide) rfl (fun ls hl => ?_)
      refine lv_ldcw (v := (2000000000 : Int32)) hx hb hown (hts _ q2350) dX6_look_38 ?_
      refine lv_istore (lv' := [(4, .int (2000000000 : Int32)), (3, .int (-1 : Int32)), (2, .int r_12), (0, .ref (a 0)), (1, .int r_3)]) hx hb dX6_look_41 hl (by decide) rfl (fun ls hl => ?_)
      refine lv_iconst (v := (0 : Int32)) hx hb dX6_look_43 (by decide) ?_
      refine lv_istore (lv' := [(5, .int (0 : Int32)), (4, .int (2000000000 : Int32)), (3, .int (-1 : Int32)), (2, .int r_12), (0, .ref (a 0)), (1, .int r_3)]) hx hb dX6_look_44 hl (by decide) rfl (fun ls hl => ?_)
      refine lv_iconst (v := (0 : Int32)) hx hb dX6_look_46 (by decide) ?_
      refine lv_istore (lv' := [(6, .int (0 : Int32)), (5, .int (0 : Int32)), (4, .int (2000000000 : Int32)), (3, .int (-1 : Int32)), (2, .int r_12), (0, .ref (a 0)), (1, .int r_3)]) hx hb dX6_look_47 hl (by decide) rfl (fun ls hl => ?_)
      have hL_13 : ∀ n : Nat, ∀ (x3_14 : Int32) (x4_15 : Int32) (x5_16 : Int32) (x6_17 : Int32), ∀ (H : Heap) (locs : List Loc), va_P D zCl (cT k a t_11) H → va_D A (cT k a t_11) → va_S A s.heap H locs → ∀ ls : Array Slot, lv_has ls 7 [(0, .ref (a 0)), (2, .int r_12), (3, .int x3_14), (4, .int x4_15), (5, .int x5_16), (6, .int x6_17)] → fX6_look_L49 t_11 r_12 n x3_14 x4_15 x5_16 x6_17 = some (r, tt) → W p l e rX6_look s m args below meth c H locs 0 0 (MQ below (QWr (fun r' w' => r' = (some (.int r)) ∧ w' = cT k a tt) D zCl A) args s 0 0 A) (F0 m 49 ls []) := by
        intro n
        induction n with
        | zero =>
          intro x3_14 x4_15 x5_16 x6_17 H locs hP hD hS ls hl hrun
          exact nomatch hrun
        | succ n ih =>
          intro x3_14 x4_15 x5_16 x6_17 H locs hP hD hS ls hl hrun
          rw [fX6_look_L49.eq_2] at hrun
          refine lv_iload hx hb dX6_look_49 (lv_at hl 5 rfl) ?_
          refine lv_bipush (v := (52 : Int32)) hx hb dX6_look_51 (by decide) ?_
          refine lv_icmp_ge (tgt := 118) hx hb dX6_look_53 (by decide) (fun c_18 => ?_) (fun c_18 => ?_)
          · have hrun := mif_p c_18 hrun
            refine lv_iload_n hx hb dX6_look_118 rfl (lv_at hl 2 rfl) ?_
            cases hrun
            exact retW_i hx hb hr hlocks hP hD hS ⟨rfl, rfl⟩ dX6_look_119
          have hrun := mif_n c_18 hrun
          refine lv_iload_n hx hb dX6_look_56 rfl (lv_at hl 1 rfl) ?_
          refine lv_iconst (v := (1 : Int32)) hx hb dX6_look_57 (by decide) ?_
          refine lv_icmp_le (tgt := 118) hx hb dX6_look_58 (by decide) (fun c_19 => ?_) (fun c_19 => ?_)
          · have hrun := mif_p c_19 hrun
            refine lv_iload_n hx hb dX6_look_118 rfl (lv_at hl 2 rfl) ?_
            cases hrun
            exact retW_i hx hb hr hlocks hP hD hS ⟨rfl, rfl⟩ dX6_look_119
          have hrun := mif_n c_19 hrun
          refine lv_iload hx hb dX6_look_61 (lv_at hl 4 rfl) ?_
          refine lv_aload_n hx hb dX6_look_63 rfl (lv_at hl 0 rfl) ?_
          refine va_get (ci := 0) (v := .ref (a 9)) (C := RX6) (T := TX6) (N := 22) hx hb hts in_X6 hown hK hP 0 rfl rfl 21 (by decide) (hts _ q1923) (fun _ h9 => h9) rfl dX6_look_64 ?_
          refine lv_iload hx hb dX6_look_67 (lv_at hl 5 rfl) ?_
          obtain ⟨hb_20, hrun⟩ := mck_s rfl hrun
          refine va_zald hx hb hK hP 9 1 rfl rfl hb_20 dX6_look_69 ?_
          obtain ⟨K_24, hK_24, hrun⟩ := mjn_s hrun
          have hj_22 : ∀ (y_23 : Bool), ∀ (H : Heap) (locs : List Loc), va_P D zCl (cT k a t_11) H → va_D A (cT k a t_11) → va_S A s.heap H locs → ∀ ls : Array Slot, lv_has ls 7 [(0, .ref (a 0)), (2, .int r_12), (3, .int x3_14), (4, .int x4_15), (6, .int x6_17)] → K_24 y_23 = some (r, tt) → W p l e rX6_look s m args below meth c H locs 0 0 (MQ below (QWr (fun r' w' => r' = (some (.int r)) ∧ w' = cT k a tt) D zCl A) args s 0 0 A) (F0 m 78 ls [.int (bz y_23), .int x5_16]) := by
            intro y_23 H locs hP hD hS ls hl hrun
            rw [hK_24] at hrun
            refine lv_iadd hx hb dX6_look_78 ?_
            refine lv_istore (lv' := [(5, .int (x5_16 + (bz y_23))), (0, .ref (a 0)), (2, .int r_12), (3, .int x3_14), (4, .int x4_15), (6, .int x6_17)]) hx hb dX6_look_79 hl (by decide) rfl (fun ls hl => ?_)
            refine lv_iload hx hb dX6_look_81 (lv_at hl 0 rfl) ?_
            refine lv_iload_n hx hb dX6_look_83 rfl (lv_at hl 2 rfl) ?_
            refine lv_iload hx hb dX6_look_84 (lv_at hl 0 rfl) ?_
            refine lv_isub hx hb dX6_look_86 ?_
            obtain ⟨r_26, hc_25, hrun⟩ := mob_s rfl hrun
            refine cRS (ws := []) (As := [.int (x5_16 + (bz y_23)), .int (r_12 - (x5_16 + (bz y_23)))]) ⟨hx, hb, hml, hown, hts⟩ hOK hz hS zP0 (mtX6_greater l D Z hOK _ _ _ hc_25) (kX6_greater hts q2260 rfl rfl ⟨Nat.le_of_ble_eq_true rfl, Nat.le_of_ble_eq_true rfl⟩) rfl hl.1 rfl (lv_room (Nat.le_of_ble_eq_true rfl)) ⟨Nat.le_of_ble_eq_true rfl, Nat.le_of_ble_eq_true rfl⟩ dX6_look_87 ?_
            refine lv_iload hx hb dX6_look_90 (lv_at hl 4 rfl) ?_
            refine lv_icmp_lt (tgt := 98) hx hb dX6_look_92 (by decide) (fun c_27 => ?_) (fun c_27 => ?_)
            · have hrun := mif_p c_27 hrun
              refine lv_iload hx hb dX6_look_98 (lv_at hl 0 rfl) ?_
              refine lv_iload_n hx hb dX6_look_100 rfl (lv_at hl 2 rfl) ?_
              refine lv_iload hx hb dX6_look_101 (lv_at hl 0 rfl) ?_
              refine lv_isub hx hb dX6_look_103 ?_
              obtain ⟨r_29, hc_28, hrun⟩ := mob_s rfl hrun
              refine cRS (ws := []) (As := [.int (x5_16 + (bz y_23)), .int (r_12 - (x5_16 + (bz y_23)))]) ⟨hx, hb, hml, hown, hts⟩ hOK hz hS zP0 (mtX6_greater l D Z hOK _ _ _ hc_28) (kX6_greater hts q2260 rfl rfl ⟨Nat.le_of_ble_eq_true rfl, Nat.le_of_ble_eq_true rfl⟩) rfl hl.1 rfl (lv_room (Nat.le_of_ble_eq_true rfl)) ⟨Nat.le_of_ble_eq_true rfl, Nat.le_of_ble_eq_true rfl⟩ dX6_look_104 ?_
              refine lv_istore (lv' := [(4, .int r_29), (5, .int (x5_16 + (bz y_23))), (0, .ref (a 0)), (2, .int r_12), (3, .int x3_14), (6, .int x6_17)]) hx hb dX6_look_107 hl (by decide) rfl (fun ls hl => ?_)
              refine lv_iload hx hb dX6_look_109 (lv_at hl 5 rfl) ?_
              refine lv_istore_n (lv' := [(3, .int x6_17), (4, .int r_29), (5, .int (x5_16 + (bz y_23))), (0, .ref (a 0)), (2, .int r_12), (6, .int x6_17)]) hx hb dX6_look_111 rfl hl (by decide) rfl (fun ls hl => ?_)
              refine lv_iinc (v := (x6_17 + (1 : Int32))) (lv' := [(6, .int (x6_17 + (1 : Int32))), (3, .int x6_17), (4, .int r_29), (5, .int (x5_16 + (bz y_23))), (0, .ref (a 0)), (2, .int r_12)]) hx hb dX6_look_112 hl (k := 5) rfl rfl (by decide) rfl (fun ls hl => ?_)
              refine lv_goto (tgt := 49) hx hb dX6_look_115 (by decide) ?_
              exact ih x6_17 r_29 (x5_16 + (bz y_23)) (x6_17 + (1 : Int32)) _ _ hP hD hS ls (lv_sub hl [4, 5, 1, 2, 3, 0] rfl) hrun
            have hrun := mif_n c_27 hrun
            refine lv_goto (tgt := 112) hx hb dX6_look_95 (by decide) ?_
            refine lv_iinc (v := (x6_17 + (1 : Int32))) (lv' := [(6, .int (x6_17 + (1 : Int32))), (5, .int (x5_16 + (bz y_23))), (0, .ref (a 0)), (2, .int r_12), (3, .int x3_14), (4, .int x4_15)]) hx hb dX6_look_112 hl (k := 5) rfl rfl (by decide) rfl (fun ls hl => ?_)
            refine lv_goto (tgt := 49) hx hb dX6_look_115 (by decide) ?_
            exact ih x3_14 x4_15 (x5_16 + (bz y_23)) (x6_17 + (1 : Int32)) _ _ hP hD hS ls (lv_sub hl [2, 3, 4, 5, 1, 0] rfl) hrun
          refine lv_if_eq (tgt := 77) hx hb dX6_look_70 (by decide) (fun c_21 => ?_) (fun c_21 => ?_)
          · have hrun := mif_n (bz_z c_21) hrun
            refine lv_iconst (v := (0 : Int32)) hx hb dX6_look_77 (by decide) ?_
            exact hj_22 false _ _ hP hD hS ls (lv_sub hl [0, 1, 2, 3, 5] rfl) hrun
          have hrun := mif_p (bz_nz c_21) hrun
          refine lv_iconst (v := (1 : Int32)) hx hb dX6_look_73 (by decide) ?_
          refine lv_goto (tgt := 78) hx hb dX6_look_74 (by decide) ?_
          exact hj_22 true _ _ hP hD hS ls (lv_sub hl [0, 1, 2, 3, 5] rfl) hrun
      exact hL_13 mFU (-1 : Int32) (2000000000 : Int32) (0 : Int32) (0 : Int32) _ _ hP hD hS ls (lv_sub hl [5, 4, 3, 2, 1, 0] rfl) hrun
    have hrun := mif_n c_9 hrun
    refine lv_iconst (v := (0 : Int32)) hx hb dX6_look_28 (by decide) ?_
    cases hrun
    exact retW_i hx hb hr hlocks hP hD hS ⟨rfl, rfl⟩ dX6_look_29
  refine lv_icmp_ne (tgt := 17) hx hb dX6_look_10 (by decide) (fun c_4 => ?_) (fun c_4 => ?_)
  · have hrun := mif_n c_4 hrun
    refine lv_iconst (v := (0 : Int32)) hx hb dX6_look_17 (by decide) ?_
    exact hj_5 false _ _ hP hD hS ls (lv_sub hl [1, 0] rfl) hrun
  have hrun := mif_p c_4 hrun
  refine lv_iconst (v := (1 : Int32)) hx hb dX6_look_13 (by decide) ?_
  refine lv_goto (tgt := 18) hx hb dX6_look_14 (by decide) ?_
  exact hj_5 true _ _ hP hD hS ls (lv_sub hl [1, 0] rfl) hrun
def rX6_keenest : Room := { frames := 2, cells := 0, slots := 0, locals := 43 }
noncomputable def fX6_keenest_L9 (t_1 : Tw) : Nat → Int32 → Int32 → Option (Int32 × Tw)
  | 0, _, _ => none
  | n + 1, x1_3, x2_4 =>
    if ((tw_m t_1) 3) ≤ x2_4 then
      some (x1_3, t_1)
    else
      mob (fX6_isHere t_1 x2_4) fun r_7 =>
      if r_7 = true then
        if x1_3 = (-1 : Int32) then
          fX6_keenest_L9 t_1 n x2_4 (x2_4 + (1 : Int32))
        else
          mob (fX6_risk t_1 x2_4) fun r_11 =>
          mob (fX6_risk t_1 x1_3) fun r_13 =>
          if r_11 ≤ r_13 then
            fX6_keenest_L9 t_1 n x1_3 (x2_4 + (1 : Int32))
          else
            fX6_keenest_L9 t_1 n x2_4 (x2_4 + (1 : Int32))
      else
        fX6_keenest_L9 t_1 n x1_3 (x2_4 + (1 : Int32))
noncomputable def fX6_keenest (t : Tw) : Option (Int32 × Tw) :=
  mlt (tw_s_thrown t (0 : Int32)) fun t_1 =>
  fX6_keenest_L9 t_1 mFU (-1 : Int32) (0 : Int32)
theorem kX6_keenest {R : Room} {s : State} {args : Array Value} {own : String} {idx mc ms : Nat} {rm : Room} (hts : ∀ w ∈ lw_all, w.before args s = true) (hl : Cond.methodLink own idx yX6_keenest ∈ lw_all) (hrc : rm.cells = mc) (hrs : rm.slots = ms) (hR : rm.frames + 1 ≤ R.frames ∧ 8 + (3 + 11) + rm.locals ≤ R.locals) : CallW R s args own RX6 idx yX6_keenest cX6_keenest 3 (some .int) (ws_ yX6_keenest cX6_keenest 3 (some .int)) rm mc ms 0 :=
  cwV 0 hts (lw_V hl q2396 q2397 q115 q2398) rfl hrc hrs (by decide +kernel) hR
set_option maxHeartbeats 4000000 in
set_option maxRecDepth 100000 in
theorem mtX6_keenest (l : Launch) (D : va_G) (k : Nat → ClassId) (a : Nat → Nat) (Z : zZ) (hOK : zOK D zCl (zTys k) Z) (t : Tw) (r : Int32) (tt : Tw) (hrun : fX6_keenest t = some (r, tt)) :
    CtW l yX6_keenest cX6_keenest 3 (some .int) rX6_keenest Z D zCl (cT k a t) [.ref (a 0)] (fun r' w' => r' = (some (.int r)) ∧ w' = cT k a tt) 0 0 := by
  refine CtW.of (by decide) (Nat.le_of_ble_eq_true rfl) ?_
  intro p e s m args below meth c A hE hA hP hD hS hz ls hl
  obtain ⟨hx, hb, hr, hml, hown, hts, hlocks, hname⟩ := hE
  have hown : s.vm.findClass RX6 = some m.cls := hown
  have hK := hOK.1 _ _ _ hz
  have hl : lv_has ls 3 [(0, .ref (a 0))] := hl
  unfold fX6_keenest at hrun
  refine lv_aload_n hx hb dX6_keenest_0 rfl (lv_at hl 0 rfl) ?_
  refine lv_iconst (v := (0 : Int32)) hx hb dX6_keenest_1 (by decide) ?_
  refine va_put (ci := 0) (v := .int (0 : Int32)) (ty := tyX6 0) (C := RX6) (T := TX6) (N := 22) hx hb hts in_X6 tyX6 tyX6_ok nmX6 hown hK hP hD hS 0 rfl rfl 0 (by decide) (hts _ q1902) (fun _ h9 => h9) rfl (tyX6_ok 0 (by decide)) rfl rfl (Nat.le_of_ble_eq_true rfl) dX6_keenest_2 (fun H locs hP hD hS => ?_)
  have hP : va_P D zCl (cT k a (tw_s_thrown t (0 : Int32))) H := hP
  have hD : va_D A (cT k a (tw_s_thrown t (0 : Int32))) := hD
  obtain ⟨t_1, et_1⟩ : ∃ z : Tw, z = (tw_s_thrown t (0 : Int32)) := ⟨_, rfl⟩
  rw [← et_1] at hP hD
  have hrun := mlt_s hrun t_1 et_1
  refine lv_iconst (v := (-1 : Int32)) hx hb dX6_keenest_5 (by decide) ?_
  refine lv_istore_n (lv' := [(1, .int (-1 : Int32)), (0, .ref (a 0))]) hx hb dX6_keenest_6 rfl hl (by decide) rfl (fun ls hl => ?_)
  refine lv_iconst (v := (0 : Int32)) hx hb dX6_keenest_7 (by decide) ?_
  refine lv_istore_n (lv' := [(2, .int (0 : Int32)), (1, .int (-1 : Int32)), (0, .ref (a 0))]) hx hb dX6_keenest_8 rfl hl (by decide) rfl (fun ls hl => ?_)
  have hL_2 : ∀ n : Nat, ∀ (x1_3 : Int32) (x2_4 : Int32), ∀ (H : Heap) (locs : List Loc), va_P D zCl (cT k a t_1) H → va_D A (cT k a t_1) → va_S A s.heap H locs → ∀ ls : Array Slot, lv_has ls 3 [(0, .ref (a 0)), (1, .int x1_3), (2, .int x2_4)] → fX6_keenest_L9 t_1 n x1_3 x2_4 = some (r, tt) → W p l e rX6_keenest s m args below meth c H locs 0 0 (MQ below (QWr (fun r' w' => r' = (some (.int r)) ∧ w' = cT k a tt) D zCl A) args s 0 0 A) (F0 m 9 ls []) := by
    intro n
    induction n with
    | zero =>
      intro x1_3 x2_4 H locs hP hD hS ls hl hrun
      exact nomatch hrun
    | succ n ih =>
      intro x1_3 x2_4 H locs hP hD hS ls hl hrun
      rw [fX6_keenest_L9.eq_2] at hrun
      refine lv_iload_n hx hb dX6_keenest_9 rfl (lv_at hl 2 rfl) ?_
      refine lv_aload_n hx hb dX6_keenest_10 rfl (lv_at hl 0 rfl) ?_
      refine va_get (ci := 0) (v := .ref (a 1)) (C := RX6) (T := TX6) (N := 22) hx hb hts in_X6 hown hK hP 0 rfl rfl 1 (by decide) (hts _ q1903) (fun _ h9 => h9) rfl dX6_keenest_11 ?_
      refine lv_iconst (v := (3 : Int32)) hx hb dX6_keenest_14 (by decide) ?_
      refine va_ialdk (k := 3) hx hb hK hP 1 0 rfl rfl rfl (show ¬ _ from by decide) dX6_keenest_15 ?_
      refine lv_icmp_ge (tgt := 53) hx hb dX6_keenest_16 (by decide) (fun c_5 => ?_) (fun c_5 => ?_)
      · have hrun := mif_p c_5 hrun
        refine lv_iload_n hx hb dX6_keenest_53 rfl (lv_at hl 1 rfl) ?_
        cases hrun
        exact retW_i hx hb hr hlocks hP hD hS ⟨rfl, rfl⟩ dX6_keenest_54
      have hrun := mif_n c_5 hrun
      refine lv_aload_n hx hb dX6_keenest_19 rfl (lv_at hl 0 rfl) ?_
      refine lv_iload_n hx hb dX6_keenest_20 rfl (lv_at hl 2 rfl) ?_
      obtain ⟨r_7, hc_6, hrun⟩ := mob_s rfl hrun
      refine cRV (As := [.int x2_4]) (ci := 0) ⟨hx, hb, hml, hown, hts⟩ hOK hz hS hP (mtX6_isHere l D k a Z hOK _ _ _ hc_6) (kX6_isHere hts q2155 rfl rfl ⟨Nat.le_of_ble_eq_true rfl, Nat.le_of_ble_eq_true rfl⟩) 0 rfl rfl rfl hl.1 rfl (lv_room (Nat.le_of_ble_eq_true rfl)) ⟨Nat.le_of_ble_eq_true rfl, Nat.le_of_ble_eq_true rfl⟩ dX6_keenest_21 ?_
      refine lv_if_eq (tgt := 47) hx hb dX6_keenest_24 (by decide) (fun c_8 => ?_) (fun c_8 => ?_)
      · have hrun := mif_n (bz_z c_8) hrun
        refine lv_iinc (v := (x2_4 + (1 : Int32))) (lv' := [(2, .int (x2_4 + (1 : Int32))), (0, .ref (a 0)), (1, .int x1_3)]) hx hb dX6_keenest_47 hl (k := 2) rfl rfl (by decide) rfl (fun ls hl => ?_)
        refine lv_goto (tgt := 9) hx hb dX6_keenest_50 (by decide) ?_
        exact ih x1_3 (x2_4 + (1 : Int32)) _ _ hP hD hS ls (lv_sub hl [1, 2, 0] rfl) hrun
      have hrun := mif_p (bz_nz c_8) hrun
      refine lv_iload_n hx hb dX6_keenest_27 rfl (lv_at hl 1 rfl) ?_
      refine lv_iconst (v := (-1 : Int32)) hx hb dX6_keenest_28 (by decide) ?_
      refine lv_icmp_eq (tgt := 45) hx hb dX6_keenest_29 (by decide) (fun c_9 => ?_) (fun c_9 => ?_)
      · have hrun := mif_p c_9 hrun
        refine lv_iload_n hx hb dX6_keenest_45 rfl (lv_at hl 2 rfl) ?_
        refine lv_istore_n (lv' := [(1, .int x2_4), (0, .ref (a 0)), (2, .int x2_4)]) hx hb dX6_keenest_46 rfl hl (by decide) rfl (fun ls hl => ?_)
        refine lv_iinc (v := (x2_4 + (1 : Int32))) (lv' := [(2, .int (x2_4 + (1 : Int32))), (1, .int x2_4), (0, .ref (a 0))]) hx hb dX6_keenest_47 hl (k := 2) rfl rfl (by decide) rfl (fun ls hl => ?_)
        refine lv_goto (tgt := 9) hx hb dX6_keenest_50 (by decide) ?_
        exact ih x2_4 (x2_4 + (1 : Int32)) _ _ hP hD hS ls (lv_sub hl [2, 1, 0] rfl) hrun
      have hrun := mif_n c_9 hrun
      refine lv_aload_n hx hb dX6_keenest_32 rfl (lv_at hl 0 rfl) ?_
      refine lv_iload_n hx hb dX6_keenest_33 rfl (lv_at hl 2 rfl) ?_
      obtain ⟨r_11, hc_10, hrun⟩ := mob_s rfl hrun
      refine cRV (As := [.int x2_4]) (ci := 0) ⟨hx, hb, hml, hown, hts⟩ hOK hz hS hP (mtX6_risk l D k a Z hOK _ _ _ hc_10) (kX6_risk hts q2140 rfl rfl ⟨Nat.le_of_ble_eq_true rfl, Nat.le_of_ble_eq_true rfl⟩) 0 rfl rfl rfl hl.1 rfl (lv_room (Nat.le_of_ble_eq_true rfl)) ⟨Nat.le_of_ble_eq_true rfl, Nat.le_of_ble_eq_true rfl⟩ dX6_keenest_34 ?_
      refine lv_aload_n hx hb dX6_keenest_37 rfl (lv_at hl 0 rfl) ?_
      refine lv_iload_n hx hb dX6_keenest_38 rfl (lv_at hl 1 rfl) ?_
      obtain ⟨r_13, hc_12, hrun⟩ := mob_s rfl hrun
      refine cRV (As := [.int x1_3]) (ci := 0) ⟨hx, hb, hml, hown, hts⟩ hOK hz hS hP (mtX6_risk l D k a Z hOK _ _ _ hc_12) (kX6_risk hts q2140 rfl rfl ⟨Nat.le_of_ble_eq_true rfl, Nat.le_of_ble_eq_true rfl⟩) 0 rfl rfl rfl hl.1 rfl (lv_room (Nat.le_of_ble_eq_true rfl)) ⟨Nat.le_of_ble_eq_true rfl, Nat.le_of_ble_eq_true rfl⟩ dX6_keenest_39 ?_
      refine lv_icmp_le (tgt := 47) hx hb dX6_keenest_42 (by decide) (fun c_14 => ?_) (fun c_14 => ?_)
      · have hrun := mif_p c_14 hrun
        refine lv_iinc (v := (x2_4 + (1 : Int32))) (lv' := [(2, .int (x2_4 + (1 : Int32))), (0, .ref (a 0)), (1, .int x1_3)]) hx hb dX6_keenest_47 hl (k := 2) rfl rfl (by decide) rfl (fun ls hl => ?_)
        refine lv_goto (tgt := 9) hx hb dX6_keenest_50 (by decide) ?_
        exact ih x1_3 (x2_4 + (1 : Int32)) _ _ hP hD hS ls (lv_sub hl [1, 2, 0] rfl) hrun
      have hrun := mif_n c_14 hrun
      refine lv_iload_n hx hb dX6_keenest_45 rfl (lv_at hl 2 rfl) ?_
      refine lv_istore_n (lv' := [(1, .int x2_4), (0, .ref (a 0)), (2, .int x2_4)]) hx hb dX6_keenest_46 rfl hl (by decide) rfl (fun ls hl => ?_)
      refine lv_iinc (v := (x2_4 + (1 : Int32))) (lv' := [(2, .int (x2_4 + (1 : Int32))), (1, .int x2_4), (0, .ref (a 0))]) hx hb dX6_keenest_47 hl (k := 2) rfl rfl (by decide) rfl (fun ls hl => ?_)
      refine lv_goto (tgt := 9) hx hb dX6_keenest_50 (by decide) ?_
      exact ih x2_4 (x2_4 + (1 : Int32)) _ _ hP hD hS ls (lv_sub hl [2, 1, 0] rfl) hrun
  exact hL_2 mFU (-1 : Int32) (0 : Int32) _ _ hP hD hS ls (lv_sub hl [2, 1, 0] rfl) hrun
def rX6_alike : Room := { frames := 1, cells := 0, slots := 0, locals := 22 }
noncomputable def fX6_alike_L23 (t_1 : Tw) (K_8 : Int32 → Option (Int32 × Tw)) (x2_4 : Int32) : Nat → Int32 → Int32 → Option (Int32 × Tw)
  | 0, _, _ => none
  | n + 1, x1_10, x3_11 =>
    if ((tw_m t_1) 3) ≤ x3_11 then
      K_8 x1_10
    else
      mob (fX6_of t_1 x2_4 (1 : Int32)) fun r_14 =>
      mob (fX6_of t_1 x3_11 (1 : Int32)) fun r_16 =>
      if r_14 = r_16 then
        mob (fX6_of t_1 x2_4 (0 : Int32)) fun r_19 =>
        mob (fX6_of t_1 x3_11 (0 : Int32)) fun r_21 =>
        if r_19 = r_21 then
          fX6_alike_L23 t_1 K_8 x2_4 n (x1_10 + (1 : Int32)) (x3_11 + (1 : Int32))
        else
          fX6_alike_L23 t_1 K_8 x2_4 n (x1_10 + (0 : Int32)) (x3_11 + (1 : Int32))
      else
        fX6_alike_L23 t_1 K_8 x2_4 n (x1_10 + (0 : Int32)) (x3_11 + (1 : Int32))
noncomputable def fX6_alike_L9 (t_1 : Tw) : Nat → Int32 → Int32 → Option (Int32 × Tw)
  | 0, _, _ => none
  | n + 1, x1_3, x2_4 =>
    if ((tw_m t_1) 3) ≤ x2_4 then
      some (x1_3, t_1)
    else
      mjn (fun (x1_7 : Int32) =>
      fX6_alike_L9 t_1 n x1_7 (x2_4 + (1 : Int32))) fun K_8 =>
      fX6_alike_L23 t_1 K_8 x2_4 mFU x1_3 (x2_4 + (1 : Int32))
noncomputable def fX6_alike (t : Tw) : Option (Int32 × Tw) :=
  mlt (tw_s_thrown t (0 : Int32)) fun t_1 =>
  fX6_alike_L9 t_1 mFU (0 : Int32) (0 : Int32)
theorem kX6_alike {R : Room} {s : State} {args : Array Value} {own : String} {idx mc ms : Nat} {rm : Room} (hts : ∀ w ∈ lw_all, w.before args s = true) (hl : Cond.methodLink own idx yX6_alike ∈ lw_all) (hrc : rm.cells = mc) (hrs : rm.slots = ms) (hR : rm.frames + 1 ≤ R.frames ∧ 8 + (4 + 11) + rm.locals ≤ R.locals) : CallW R s args own RX6 idx yX6_alike cX6_alike 4 (some .int) (ws_ yX6_alike cX6_alike 4 (some .int)) rm mc ms 0 :=
  cwV 0 hts (lw_V hl q2400 q2401 q115 q2402) rfl hrc hrs (by decide +kernel) hR
set_option maxHeartbeats 4000000 in
set_option maxRecDepth 100000 in
theorem mtX6_alike (l : Launch) (D : va_G) (k : Nat → ClassId) (a : Nat → Nat) (Z : zZ) (hOK : zOK D zCl (zTys k) Z) (t : Tw) (r : Int32) (tt : Tw) (hrun : fX6_alike t = some (r, tt)) :
    CtW l yX6_alike cX6_alike 4 (some .int) rX6_alike Z D zCl (cT k a t) [.ref (a 0)] (fun r' w' => r' = (some (.int r)) ∧ w' = cT k a tt) 0 0 := by
  refine CtW.of (by decide) (Nat.le_of_ble_eq_true rfl) ?_
  intro p e s m args below meth c A hE hA hP hD hS hz ls hl
  obtain ⟨hx, hb, hr, hml, hown, hts, hlocks, hname⟩ := hE
  have hown : s.vm.findClass RX6 = some m.cls := hown
  have hK := hOK.1 _ _ _ hz
  have hl : lv_has ls 4 [(0, .ref (a 0))] := hl
  unfold fX6_alike at hrun
  refine lv_aload_n hx hb dX6_alike_0 rfl (lv_at hl 0 rfl) ?_
  refine lv_iconst (v := (0 : Int32)) hx hb dX6_alike_1 (by decide) ?_
  refine va_put (ci := 0) (v := .int (0 : Int32)) (ty := tyX6 0) (C := RX6) (T := TX6) (N := 22) hx hb hts in_X6 tyX6 tyX6_ok nmX6 hown hK hP hD hS 0 rfl rfl 0 (by decide) (hts _ q1902) (fun _ h9 => h9) rfl (tyX6_ok 0 (by decide)) rfl rfl (Nat.le_of_ble_eq_true rfl) dX6_alike_2 (fun H locs hP hD hS => ?_)
  have hP : va_P D zCl (cT k a (tw_s_thrown t (0 : Int32))) H := hP
  have hD : va_D A (cT k a (tw_s_thrown t (0 : Int32))) := hD
  obtain ⟨t_1, et_1⟩ : ∃ z : Tw, z = (tw_s_thrown t (0 : Int32)) := ⟨_, rfl⟩
  rw [← et_1] at hP hD
  have hrun := mlt_s hrun t_1 et_1
  refine lv_iconst (v := (0 : Int32)) hx hb dX6_alike_5 (by decide) ?_
  refine lv_istore_n (lv' := [(1, .int (0 : Int32)), (0, .ref (a 0))]) hx hb dX6_alike_6 rfl hl (by decide) rfl (fun ls hl => ?_)
  refine lv_iconst (v := (0 : Int32)) hx hb dX6_alike_7 (by decide) ?_
  refine lv_istore_n (lv' := [(2, .int (0 : Int32)), (1, .int (0 : Int32)), (0, .ref (a 0))]) hx hb dX6_alike_8 rfl hl (by decide) rfl (fun ls hl => ?_)
  have hL_2 : ∀ n : Nat, ∀ (x1_3 : Int32) (x2_4 : Int32), ∀ (H : Heap) (locs : List Loc), va_P D zCl (cT k a t_1) H → va_D A (cT k a t_1) → va_S A s.heap H locs → ∀ ls : Array Slot, lv_has ls 4 [(0, .ref (a 0)), (1, .int x1_3), (2, .int x2_4)] → fX6_alike_L9 t_1 n x1_3 x2_4 = some (r, tt) → W p l e rX6_alike s m args below meth c H locs 0 0 (MQ below (QWr (fun r' w' => r' = (some (.int r)) ∧ w' = cT k a tt) D zCl A) args s 0 0 A) (F0 m 9 ls []) := by
    intro n
    induction n with
    | zero =>
      intro x1_3 x2_4 H locs hP hD hS ls hl hrun
      exact nomatch hrun
    | succ n ih =>
      intro x1_3 x2_4 H locs hP hD hS ls hl hrun
      rw [fX6_alike_L9.eq_2] at hrun
      refine lv_iload_n hx hb dX6_alike_9 rfl (lv_at hl 2 rfl) ?_
      refine lv_aload_n hx hb dX6_alike_10 rfl (lv_at hl 0 rfl) ?_
      refine va_get (ci := 0) (v := .ref (a 1)) (C := RX6) (T := TX6) (N := 22) hx hb hts in_X6 hown hK hP 0 rfl rfl 1 (by decide) (hts _ q1903) (fun _ h9 => h9) rfl dX6_alike_11 ?_
      refine lv_iconst (v := (3 : Int32)) hx hb dX6_alike_14 (by decide) ?_
      refine va_ialdk (k := 3) hx hb hK hP 1 0 rfl rfl rfl (show ¬ _ from by decide) dX6_alike_15 ?_
      refine lv_icmp_ge (tgt := 83) hx hb dX6_alike_16 (by decide) (fun c_5 => ?_) (fun c_5 => ?_)
      · have hrun := mif_p c_5 hrun
        refine lv_iload_n hx hb dX6_alike_83 rfl (lv_at hl 1 rfl) ?_
        cases hrun
        exact retW_i hx hb hr hlocks hP hD hS ⟨rfl, rfl⟩ dX6_alike_84
      have hrun := mif_n c_5 hrun
      refine lv_iload_n hx hb dX6_alike_19 rfl (lv_at hl 2 rfl) ?_
      refine lv_iconst (v := (1 : Int32)) hx hb dX6_alike_20 (by decide) ?_
      refine lv_iadd hx hb dX6_alike_21 ?_
      refine lv_istore_n (lv' := [(3, .int (x2_4 + (1 : Int32))), (0, .ref (a 0)), (1, .int x1_3), (2, .int x2_4)]) hx hb dX6_alike_22 rfl hl (by decide) rfl (fun ls hl => ?_)
      obtain ⟨K_8, hK_8, hrun⟩ := mjn_s hrun
      have hj_6 : ∀ (x1_7 : Int32), ∀ (H : Heap) (locs : List Loc), va_P D zCl (cT k a t_1) H → va_D A (cT k a t_1) → va_S A s.heap H locs → ∀ ls : Array Slot, lv_has ls 4 [(0, .ref (a 0)), (1, .int x1_7), (2, .int x2_4)] → K_8 x1_7 = some (r, tt) → W p l e rX6_alike s m args below meth c H locs 0 0 (MQ below (QWr (fun r' w' => r' = (some (.int r)) ∧ w' = cT k a tt) D zCl A) args s 0 0 A) (F0 m 77 ls []) := by
        intro x1_7 H locs hP hD hS ls hl hrun
        rw [hK_8] at hrun
        refine lv_iinc (v := (x2_4 + (1 : Int32))) (lv' := [(2, .int (x2_4 + (1 : Int32))), (0, .ref (a 0)), (1, .int x1_7)]) hx hb dX6_alike_77 hl (k := 2) rfl rfl (by decide) rfl (fun ls hl => ?_)
        refine lv_goto (tgt := 9) hx hb dX6_alike_80 (by decide) ?_
        exact ih x1_7 (x2_4 + (1 : Int32)) _ _ hP hD hS ls (lv_sub hl [1, 2, 0] rfl) hrun
      have hL_9 : ∀ n : Nat, ∀ (x1_10 : Int32) (x3_11 : Int32), ∀ (H : Heap) (locs : List Loc), va_P D zCl (cT k a t_1) H → va_D A (cT k a t_1) → va_S A s.heap H locs → ∀ ls : Array Slot, lv_has ls 4 [(0, .ref (a 0)), (1, .int x1_10), (2, .int x2_4), (3, .int x3_11)] → fX6_alike_L23 t_1 K_8 x2_4 n x1_10 x3_11 = some (r, tt) → W p l e rX6_alike s m args below meth c H locs 0 0 (MQ below (QWr (fun r' w' => r' = (some (.int r)) ∧ w' = cT k a tt) D zCl A) args s 0 0 A) (F0 m 23 ls []) := by
        intro n
        induction n with
        | zero =>
          intro x1_10 x3_11 H locs hP hD hS ls hl hrun
          exact nomatch hrun
        | succ n ih =>
          intro x1_10 x3_11 H locs hP hD hS ls hl hrun
          rw [fX6_alike_L23.eq_2] at hrun
          refine lv_iload_n hx hb dX6_alike_23 rfl (lv_at hl 3 rfl) ?_
          refine lv_aload_n hx hb dX6_alike_24 rfl (lv_at hl 0 rfl) ?_
          refine va_get (ci := 0) (v := .ref (a 1)) (C := RX6) (T := TX6) (N := 22) hx hb hts in_X6 hown hK hP 0 rfl rfl 1 (by decide) (hts _ q1903) (fun _ h9 => h9) rfl dX6_alike_25 ?_
          refine lv_iconst (v := (3 : Int32)) hx hb dX6_alike_28 (by decide) ?_
          refine va_ialdk (k := 3) hx hb hK hP 1 0 rfl rfl rfl (show ¬ _ from by decide) dX6_alike_29 ?_
          refine lv_icmp_ge (tgt := 77) hx hb dX6_alike_30 (by decide) (fun c_12 => ?_) (fun c_12 => ?_)
          · have hrun := mif_p c_12 hrun
            exact hj_6 x1_10 _ _ hP hD hS ls (lv_sub hl [0, 1, 2] rfl) hrun
          have hrun := mif_n c_12 hrun
          refine lv_iload_n hx hb dX6_alike_33 rfl (lv_at hl 1 rfl) ?_
          refine lv_aload_n hx hb dX6_alike_34 rfl (lv_at hl 0 rfl) ?_
          refine lv_iload_n hx hb dX6_alike_35 rfl (lv_at hl 2 rfl) ?_
          refine lv_iconst (v := (1 : Int32)) hx hb dX6_alike_36 (by decide) ?_
          obtain ⟨r_14, hc_13, hrun⟩ := mob_s rfl hrun
          refine cRV (As := [.int x2_4, .int (1 : Int32)]) (ci := 0) ⟨hx, hb, hml, hown, hts⟩ hOK hz hS hP (mtX6_of l D k a Z hOK _ _ _ _ hc_13) (kX6_of hts q2136 rfl rfl ⟨Nat.le_of_ble_eq_true rfl, Nat.le_of_ble_eq_true rfl⟩) 0 rfl rfl rfl hl.1 rfl (lv_room (Nat.le_of_ble_eq_true rfl)) ⟨Nat.le_of_ble_eq_true rfl, Nat.le_of_ble_eq_true rfl⟩ dX6_alike_37 ?_
          refine lv_aload_n hx hb dX6_alike_40 rfl (lv_at hl 0 rfl) ?_
          refine lv_iload_n hx hb dX6_alike_41 rfl (lv_at hl 3 rfl) ?_
          refine lv_iconst (v := (1 : Int32)) hx hb dX6_alike_42 (by decide) ?_
          obtain ⟨r_16, hc_15, hrun⟩ := mob_s rfl hrun
          refine cRV (As := [.int x3_11, .int (1 : Int32)]) (ci := 0) ⟨hx, hb, hml, hown, hts⟩ hOK hz hS hP (mtX6_of l D k a Z hOK _ _ _ _ hc_15) (kX6_of hts q2136 rfl rfl ⟨Nat.le_of_ble_eq_true rfl, Nat.le_of_ble_eq_true rfl⟩) 0 rfl rfl rfl hl.1 rfl (lv_room (Nat.le_of_ble_eq_true rfl)) ⟨Nat.le_of_ble_eq_true rfl, Nat.le_of_ble_eq_true rfl⟩ dX6_alike_43 ?_
          refine lv_icmp_ne (tgt := 68) hx hb dX6_alike_46 (by decide) (fun c_17 => ?_) (fun c_17 => ?_)
          · have hrun := mif_n c_17 hrun
            refine lv_iconst (v := (0 : Int32)) hx hb dX6_alike_68 (by decide) ?_
            refine lv_iadd hx hb dX6_alike_69 ?_
            refine lv_istore_n (lv' := [(1, .int (x1_10 + (0 : Int32))), (0, .ref (a 0)), (2, .int x2_4), (3, .int x3_11)]) hx hb dX6_alike_70 rfl hl (by decide) rfl (fun ls hl => ?_)
            refine lv_iinc (v := (x3_11 + (1 : Int32))) (lv' := [(3, .int (x3_11 + (1 : Int32))), (1, .int (x1_10 + (0 : Int32))), (0, .ref (a 0)), (2, .int x2_4)]) hx hb dX6_alike_71 hl (k := 3) rfl rfl (by decide) rfl (fun ls hl => ?_)
            refine lv_goto (tgt := 23) hx hb dX6_alike_74 (by decide) ?_
            exact ih (x1_10 + (0 : Int32)) (x3_11 + (1 : Int32)) _ _ hP hD hS ls (lv_sub hl [2, 1, 3, 0] rfl) hrun
          have hrun := mif_p c_17 hrun
          refine lv_aload_n hx hb dX6_alike_49 rfl (lv_at hl 0 rfl) ?_
          refine lv_iload_n hx hb dX6_alike_50 rfl (lv_at hl 2 rfl) ?_
          refine lv_iconst (v := (0 : Int32)) hx hb dX6_alike_51 (by decide) ?_
          obtain ⟨r_19, hc_18, hrun⟩ := mob_s rfl hrun
          refine cRV (As := [.int x2_4, .int (0 : Int32)]) (ci := 0) ⟨hx, hb, hml, hown, hts⟩ hOK hz hS hP (mtX6_of l D k a Z hOK _ _ _ _ hc_18) (kX6_of hts q2136 rfl rfl ⟨Nat.le_of_ble_eq_true rfl, Nat.le_of_ble_eq_true rfl⟩) 0 rfl rfl rfl hl.1 rfl (lv_room (Nat.le_of_ble_eq_true rfl)) ⟨Nat.le_of_ble_eq_true rfl, Nat.le_of_ble_eq_true rfl⟩ dX6_alike_52 ?_
          refine lv_aload_n hx hb dX6_alike_55 rfl (lv_at hl 0 rfl) ?_
          refine lv_iload_n hx hb dX6_alike_56 rfl (lv_at hl 3 rfl) ?_
          refine lv_iconst (v := (0 : Int32)) hx hb dX6_alike_57 (by decide) ?_
          obtain ⟨r_21, hc_20, hrun⟩ := mob_s rfl hrun
          refine cRV (As := [.int x3_11, .int (0 : Int32)]) (ci := 0) ⟨hx, hb, hml, hown, hts⟩ hOK hz hS hP (mtX6_of l D k a Z hOK _ _ _ _ hc_20) (kX6_of hts q2136 rfl rfl ⟨Nat.le_of_ble_eq_true rfl, Nat.le_of_ble_eq_true rfl⟩) 0 rfl rfl rfl hl.1 rfl (lv_room (Nat.le_of_ble_eq_true rfl)) ⟨Nat.le_of_ble_eq_true rfl, Nat.le_of_ble_eq_true rfl⟩ dX6_alike_58 ?_
          refine lv_icmp_ne (tgt := 68) hx hb dX6_alike_61 (by decide) (fun c_22 => ?_) (fun c_22 => ?_)
          · have hrun := mif_n c_22 hrun
            refine lv_iconst (v := (0 : Int32)) hx hb dX6_alike_68 (by decide) ?_
            refine lv_iadd hx hb dX6_alike_69 ?_
            refine lv_istore_n (lv' := [(1, .int (x1_10 + (0 : Int32))), (0, .ref (a 0)), (2, .int x2_4), (3, .int x3_11)]) hx hb dX6_alike_70 rfl hl (by decide) rfl (fun ls hl => ?_)
            refine lv_iinc (v := (x3_11 + (1 : Int32))) (lv' := [(3, .int (x3_11 + (1 : Int32))), (1, .int (x1_10 + (0 : Int32))), (0, .ref (a 0)), (2, .int x2_4)]) hx hb dX6_alike_71 hl (k := 3) rfl rfl (by decide) rfl (fun ls hl => ?_)
            refine lv_goto (tgt := 23) hx hb dX6_alike_74 (by decide) ?_
            exact ih (x1_10 + (0 : Int32)) (x3_11 + (1 : Int32)) _ _ hP hD hS ls (lv_sub hl [2, 1, 3, 0] rfl) hrun
          have hrun := mif_p c_22 hrun
          refine lv_iconst (v := (1 : Int32)) hx hb dX6_alike_64 (by decide) ?_
          refine lv_goto (tgt := 69) hx hb dX6_alike_65 (by decide) ?_
          refine lv_iadd hx hb dX6_alike_69 ?_
          refine lv_istore_n (lv' := [(1, .int (x1_10 + (1 : Int32))), (0, .ref (a 0)), (2, .int x2_4), (3, .int x3_11)]) hx hb dX6_alike_70 rfl hl (by decide) rfl (fun ls hl => ?_)
          refine lv_iinc (v := (x3_11 + (1 : Int32))) (lv' := [(3, .int (x3_11 + (1 : Int32))), (1, .int (x1_10 + (1 : Int32))), (0, .ref (a 0)), (2, .int x2_4)]) hx hb dX6_alike_71 hl (k := 3) rfl rfl (by decide) rfl (fun ls hl => ?_)
          refine lv_goto (tgt := 23) hx hb dX6_alike_74 (by decide) ?_
          exact ih (x1_10 + (1 : Int32)) (x3_11 + (1 : Int32)) _ _ hP hD hS ls (lv_sub hl [2, 1, 3, 0] rfl) hrun
      exact hL_9 mFU x1_3 (x2_4 + (1 : Int32)) _ _ hP hD hS ls (lv_sub hl [1, 2, 3, 0] rfl) hrun
  exact hL_2 mFU (0 : Int32) (0 : Int32) _ _ hP hD hS ls (lv_sub hl [2, 1, 0] rfl) hrun
