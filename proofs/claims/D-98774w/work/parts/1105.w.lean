/-! walks: X6_heard, X6_shiftsBy, X6_ask -/
def rX6_heard : Room := { frames := 0, cells := 0, slots := 0, locals := 0 }
noncomputable def fX6_heard_L31 (t : Tw) (K_8 : Bool → Option (Int32 × Tw)) (t_1 : Tw) (p1 : Int32) : Nat → Bool → Int32 → Option (Int32 × Tw)
  | 0, _, _ => none
  | n + 1, x3_11, x4_12 =>
    if (tw_taped t) ≤ x4_12 then
      K_8 x3_11
    else
      if x3_11 = true then
        mck x4_12 400 <|
        mjn (fun (y_18 : Int32) =>
        if y_18 ≤ ((tw_tape t_1) (Int32.toNatClampNeg x4_12)) then
          fX6_heard_L31 t K_8 t_1 p1 n false (x4_12 + (1 : Int32))
        else
          fX6_heard_L31 t K_8 t_1 p1 n true (x4_12 + (1 : Int32))) fun K_19 =>
        if (mrm x4_12 (2 : Int32)) = (0 : Int32) then
          K_19 p1
        else
          K_19 (2 : Int32)
      else
        K_8 x3_11
noncomputable def fX6_heard (t : Tw) (p1 : Int32) : Option (Int32 × Tw) :=
  mlt (tw_s_taped t (0 : Int32)) fun t_1 =>
  mjn (fun (y_4 : Bool) =>
  mjn (fun (x3_7 : Bool) =>
  if x3_7 = true then
    some ((tw_taped t), t_1)
  else
    some ((-1 : Int32), t_1)) fun K_8 =>
  fX6_heard_L31 t K_8 t_1 p1 mFU y_4 (0 : Int32)) fun K_5 =>
  if (mrm (tw_taped t) (2 : Int32)) = (0 : Int32) then
    if (40 : Int32) < (tw_taped t) then
      K_5 false
    else
      K_5 true
  else
    K_5 false
theorem kX6_heard {R : Room} {s : State} {args : Array Value} {own : String} {idx mc ms : Nat} {rm : Room} (hts : ∀ w ∈ lw_all, w.before args s = true) (hl : Cond.methodLink own idx yX6_heard ∈ lw_all) (hrc : rm.cells = mc) (hrs : rm.slots = ms) (hR : rm.frames + 1 ≤ R.frames ∧ 8 + (5 + 11) + rm.locals ≤ R.locals) : CallW R s args own RX6 idx yX6_heard cX6_heard 5 (some .int) (ws_ yX6_heard cX6_heard 5 (some .int)) rm mc ms 1 :=
  cwV 1 hts (lw_V hl q2373 qs99 q115 q2374) rfl hrc hrs (by decide +kernel) hR
set_option maxHeartbeats 4000000 in
set_option maxRecDepth 100000 in
theorem mtX6_heard (l : Launch) (D : va_G) (k : Nat → ClassId) (a : Nat → Nat) (Z : zZ) (hOK : zOK D zCl (zTys k) Z) (t : Tw) (p1 : Int32) (r : Int32) (tt : Tw) (hrun : fX6_heard t p1 = some (r, tt)) :
    CtW l yX6_heard cX6_heard 5 (some .int) rX6_heard Z D zCl (cT k a t) [.ref (a 0), .int p1] (fun r' w' => r' = (some (.int r)) ∧ w' = cT k a tt) 0 0 := by
  refine CtW.of (by decide) (Nat.le_of_ble_eq_true rfl) ?_
  intro p e s m args below meth c A hE hA hP hD hS hz ls hl
  obtain ⟨hx, hb, hr, hml, hown, hts, hlocks, hname⟩ := hE
  have hown : s.vm.findClass RX6 = some m.cls := hown
  have hK := hOK.1 _ _ _ hz
  have hl : lv_has ls 5 [(0, .ref (a 0)), (1, .int p1)] := hl
  unfold fX6_heard at hrun
  refine lv_aload_n hx hb dX6_heard_0 rfl (lv_at hl 0 rfl) ?_
  refine va_get (ci := 0) (v := .int (tw_taped t)) (C := RX6) (T := TX6) (N := 22) hx hb hts in_X6 hown hK hP 0 rfl rfl 8 (by decide) (hts _ q1910) (fun _ h9 => h9) rfl dX6_heard_1 ?_
  refine lv_istore_n (lv' := [(2, .int (tw_taped t)), (0, .ref (a 0)), (1, .int p1)]) hx hb dX6_heard_4 rfl hl (by decide) rfl (fun ls hl => ?_)
  refine lv_aload_n hx hb dX6_heard_5 rfl (lv_at hl 1 rfl) ?_
  refine lv_iconst (v := (0 : Int32)) hx hb dX6_heard_6 (by decide) ?_
  refine va_put (ci := 0) (v := .int (0 : Int32)) (ty := tyX6 8) (C := RX6) (T := TX6) (N := 22) hx hb hts in_X6 tyX6 tyX6_ok nmX6 hown hK hP hD hS 0 rfl rfl 8 (by decide) (hts _ q1910) (fun _ h9 => h9) rfl (tyX6_ok 8 (by decide)) rfl rfl (Nat.le_of_ble_eq_true rfl) dX6_heard_7 (fun H locs hP hD hS => ?_)
  have hP : va_P D zCl (cT k a (tw_s_taped t (0 : Int32))) H := hP
  have hD : va_D A (cT k a (tw_s_taped t (0 : Int32))) := hD
  obtain ⟨t_1, et_1⟩ : ∃ z : Tw, z = (tw_s_taped t (0 : Int32)) := ⟨_, rfl⟩
  rw [← et_1] at hP hD
  have hrun := mlt_s hrun t_1 et_1
  refine lv_iload_n hx hb dX6_heard_10 rfl (lv_at hl 0 rfl) ?_
  refine lv_iconst (v := (2 : Int32)) hx hb dX6_heard_11 (by decide) ?_
  refine lv_irem hx hb dX6_heard_12 (by decide) ?_
  obtain ⟨K_5, hK_5, hrun⟩ := mjn_s hrun
  have hj_3 : ∀ (y_4 : Bool), ∀ (H : Heap) (locs : List Loc), va_P D zCl (cT k a t_1) H → va_D A (cT k a t_1) → va_S A s.heap H locs → ∀ ls : Array Slot, lv_has ls 5 [(0, .ref (a 0)), (1, .int p1), (2, .int (tw_taped t))] → K_5 y_4 = some (r, tt) → W p l e rX6_heard s m args below meth c H locs 0 0 (MQ below (QWr (fun r' w' => r' = (some (.int r)) ∧ w' = cT k a tt) D zCl A) args s 0 0 A) (F0 m 27 ls [.int (bz y_4)]) := by
    intro y_4 H locs hP hD hS ls hl hrun
    rw [hK_5] at hrun
    refine lv_istore_n (lv' := [(3, .int (bz y_4)), (0, .ref (a 0)), (1, .int p1), (2, .int (tw_taped t))]) hx hb dX6_heard_27 rfl hl (by decide) rfl (fun ls hl => ?_)
    refine lv_iconst (v := (0 : Int32)) hx hb dX6_heard_28 (by decide) ?_
    refine lv_istore (lv' := [(4, .int (0 : Int32)), (3, .int (bz y_4)), (0, .ref (a 0)), (1, .int p1), (2, .int (tw_taped t))]) hx hb dX6_heard_29 hl (by decide) rfl (fun ls hl => ?_)
    obtain ⟨K_8, hK_8, hrun⟩ := mjn_s hrun
    have hj_6 : ∀ (x3_7 : Bool), ∀ (H : Heap) (locs : List Loc), va_P D zCl (cT k a t_1) H → va_D A (cT k a t_1) → va_S A s.heap H locs → ∀ ls : Array Slot, lv_has ls 5 [(2, .int (tw_taped t)), (3, .int (bz x3_7))] → K_8 x3_7 = some (r, tt) → W p l e rX6_heard s m args below meth c H locs 0 0 (MQ below (QWr (fun r' w' => r' = (some (.int r)) ∧ w' = cT k a tt) D zCl A) args s 0 0 A) (F0 m 75 ls []) := by
      intro x3_7 H locs hP hD hS ls hl hrun
      rw [hK_8] at hrun
      refine lv_iload_n hx hb dX6_heard_75 rfl (lv_at hl 1 rfl) ?_
      refine lv_if_eq (tgt := 83) hx hb dX6_heard_76 (by decide) (fun c_9 => ?_) (fun c_9 => ?_)
      · have hrun := mif_n (bz_z c_9) hrun
        refine lv_iconst (v := (-1 : Int32)) hx hb dX6_heard_83 (by decide) ?_
        cases hrun
        exact retW_i hx hb hr hlocks hP hD hS ⟨rfl, rfl⟩ dX6_heard_84
      have hrun := mif_p (bz_nz c_9) hrun
      refine lv_iload_n hx hb dX6_heard_79 rfl (lv_at hl 0 rfl) ?_
      refine lv_goto (tgt := 84) hx hb dX6_heard_80 (by decide) ?_
      cases hrun
      exact retW_i hx hb hr hlocks hP hD hS ⟨rfl, rfl⟩ dX6_heard_84
    have hL_10 : ∀ n : Nat, ∀ (x3_11 : Bool) (x4_12 : Int32), ∀ (H : Heap) (locs : List Loc), va_P D zCl (cT k a t_1) H → va_D A (cT k a t_1) → va_S A s.heap H locs → ∀ ls : Array Slot, lv_has ls 5 [(0, .ref (a 0)), (1, .int p1), (2, .int (tw_taped t)), (3, .int (bz x3_11)), (4, .int x4_12)] → fX6_heard_L31 t K_8 t_1 p1 n x3_11 x4_12 = some (r, tt) → W p l e rX6_heard s m args below meth c H locs 0 0 (MQ below (QWr (fun r' w' => r' = (some (.int r)) ∧ w' = cT k a tt) D zCl A) args s 0 0 A) (F0 m 31 ls []) := by
      intro n
      induction n with
      | zero =>
        intro x3_11 x4_12 H locs hP hD hS ls hl hrun
        exact nomatch hrun
      | succ n ih =>
        intro x3_11 x4_12 H locs hP hD hS ls hl hrun
        rw [fX6_heard_L31.eq_2] at hrun
        refine lv_iload hx hb dX6_heard_31 (lv_at hl 4 rfl) ?_
        refine lv_iload_n hx hb dX6_heard_33 rfl (lv_at hl 2 rfl) ?_
        refine lv_icmp_ge (tgt := 75) hx hb dX6_heard_34 (by decide) (fun c_13 => ?_) (fun c_13 => ?_)
        · have hrun := mif_p c_13 hrun
          exact hj_6 x3_11 _ _ hP hD hS ls (lv_sub hl [2, 3] rfl) hrun
        have hrun := mif_n c_13 hrun
        refine lv_iload_n hx hb dX6_heard_37 rfl (lv_at hl 3 rfl) ?_
        refine lv_if_eq (tgt := 75) hx hb dX6_heard_38 (by decide) (fun c_14 => ?_) (fun c_14 => ?_)
        · have hrun := mif_n (bz_z c_14) hrun
          exact hj_6 x3_11 _ _ hP hD hS ls (lv_sub hl [2, 3] rfl) hrun
        have hrun := mif_p (bz_nz c_14) hrun
        refine lv_aload_n hx hb dX6_heard_41 rfl (lv_at hl 0 rfl) ?_
        refine va_get (ci := 0) (v := .ref (a 5)) (C := RX6) (T := TX6) (N := 22) hx hb hts in_X6 hown hK hP 0 rfl rfl 7 (by decide) (hts _ q1909) (fun _ h9 => h9) rfl dX6_heard_42 ?_
        refine lv_iload hx hb dX6_heard_45 (lv_at hl 4 rfl) ?_
        obtain ⟨hb_15, hrun⟩ := mck_s rfl hrun
        refine va_iald hx hb hK hP 5 0 rfl rfl hb_15 dX6_heard_47 ?_
        refine lv_iload hx hb dX6_heard_48 (lv_at hl 4 rfl) ?_
        refine lv_iconst (v := (2 : Int32)) hx hb dX6_heard_50 (by decide) ?_
        refine lv_irem hx hb dX6_heard_51 (by decide) ?_
        obtain ⟨K_19, hK_19, hrun⟩ := mjn_s hrun
        have hj_17 : ∀ (y_18 : Int32), ∀ (H : Heap) (locs : List Loc), va_P D zCl (cT k a t_1) H → va_D A (cT k a t_1) → va_S A s.heap H locs → ∀ ls : Array Slot, lv_has ls 5 [(0, .ref (a 0)), (1, .int p1), (2, .int (tw_taped t)), (4, .int x4_12)] → K_19 y_18 = some (r, tt) → W p l e rX6_heard s m args below meth c H locs 0 0 (MQ below (QWr (fun r' w' => r' = (some (.int r)) ∧ w' = cT k a tt) D zCl A) args s 0 0 A) (F0 m 60 ls [.int y_18, .int ((tw_tape t_1) (Int32.toNatClampNeg x4_12))]) := by
          intro y_18 H locs hP hD hS ls hl hrun
          rw [hK_19] at hrun
          refine lv_icmp_ge (tgt := 67) hx hb dX6_heard_60 (by decide) (fun c_20 => ?_) (fun c_20 => ?_)
          · have hrun := mif_p c_20 hrun
            refine lv_iconst (v := (0 : Int32)) hx hb dX6_heard_67 (by decide) ?_
            refine lv_istore_n (lv' := [(3, .int (0 : Int32)), (0, .ref (a 0)), (1, .int p1), (2, .int (tw_taped t)), (4, .int x4_12)]) hx hb dX6_heard_68 rfl hl (by decide) rfl (fun ls hl => ?_)
            refine lv_iinc (v := (x4_12 + (1 : Int32))) (lv' := [(4, .int (x4_12 + (1 : Int32))), (3, .int (0 : Int32)), (0, .ref (a 0)), (1, .int p1), (2, .int (tw_taped t))]) hx hb dX6_heard_69 hl (k := 4) rfl rfl (by decide) rfl (fun ls hl => ?_)
            refine lv_goto (tgt := 31) hx hb dX6_heard_72 (by decide) ?_
            exact ih false (x4_12 + (1 : Int32)) _ _ hP hD hS ls (lv_sub hl [2, 3, 4, 1, 0] rfl) hrun
          have hrun := mif_n c_20 hrun
          refine lv_iconst (v := (1 : Int32)) hx hb dX6_heard_63 (by decide) ?_
          refine lv_goto (tgt := 68) hx hb dX6_heard_64 (by decide) ?_
          refine lv_istore_n (lv' := [(3, .int (1 : Int32)), (0, .ref (a 0)), (1, .int p1), (2, .int (tw_taped t)), (4, .int x4_12)]) hx hb dX6_heard_68 rfl hl (by decide) rfl (fun ls hl => ?_)
          refine lv_iinc (v := (x4_12 + (1 : Int32))) (lv' := [(4, .int (x4_12 + (1 : Int32))), (3, .int (1 : Int32)), (0, .ref (a 0)), (1, .int p1), (2, .int (tw_taped t))]) hx hb dX6_heard_69 hl (k := 4) rfl rfl (by decide) rfl (fun ls hl => ?_)
          refine lv_goto (tgt := 31) hx hb dX6_heard_72 (by decide) ?_
          exact ih true (x4_12 + (1 : Int32)) _ _ hP hD hS ls (lv_sub hl [2, 3, 4, 1, 0] rfl) hrun
        refine lv_if_ne (tgt := 59) hx hb dX6_heard_52 (by decide) (fun c_16 => ?_) (fun c_16 => ?_)
        · have hrun := mif_n c_16 hrun
          refine lv_iconst (v := (2 : Int32)) hx hb dX6_heard_59 (by decide) ?_
          exact hj_17 (2 : Int32) _ _ hP hD hS ls (lv_sub hl [0, 1, 2, 4] rfl) hrun
        have hrun := mif_p c_16 hrun
        refine lv_iload_n hx hb dX6_heard_55 rfl (lv_at hl 1 rfl) ?_
        refine lv_goto (tgt := 60) hx hb dX6_heard_56 (by decide) ?_
        exact hj_17 p1 _ _ hP hD hS ls (lv_sub hl [0, 1, 2, 4] rfl) hrun
    exact hL_10 mFU y_4 (0 : Int32) _ _ hP hD hS ls (lv_sub hl [2, 3, 4, 1, 0] rfl) hrun
  refine lv_if_ne (tgt := 26) hx hb dX6_heard_13 (by decide) (fun c_2 => ?_) (fun c_2 => ?_)
  · have hrun := mif_n c_2 hrun
    refine lv_iconst (v := (0 : Int32)) hx hb dX6_heard_26 (by decide) ?_
    exact hj_3 false _ _ hP hD hS ls (lv_sub hl [1, 2, 0] rfl) hrun
  have hrun := mif_p c_2 hrun
  refine lv_iload_n hx hb dX6_heard_16 rfl (lv_at hl 0 rfl) ?_
  refine lv_bipush (v := (40 : Int32)) hx hb dX6_heard_17 (by decide) ?_
  refine lv_icmp_gt (tgt := 26) hx hb dX6_heard_19 (by decide) (fun c_22 => ?_) (fun c_22 => ?_)
  · have hrun := mif_p c_22 hrun
    refine lv_iconst (v := (0 : Int32)) hx hb dX6_heard_26 (by decide) ?_
    exact hj_3 false _ _ hP hD hS ls (lv_sub hl [1, 2, 0] rfl) hrun
  have hrun := mif_n c_22 hrun
  refine lv_iconst (v := (1 : Int32)) hx hb dX6_heard_22 (by decide) ?_
  refine lv_goto (tgt := 27) hx hb dX6_heard_23 (by decide) ?_
  exact hj_3 true _ _ hP hD hS ls (lv_sub hl [1, 2, 0] rfl) hrun
def rX6_shiftsBy : Room := { frames := 0, cells := 0, slots := 0, locals := 0 }
noncomputable def fX6_shiftsBy_L16 (p1 : Int32) (K_7 : Bool → Option (Int32)) (t : Tw) (x3_3 : Int32) : Nat → Bool → Int32 → Option (Int32)
  | 0, _, _ => none
  | n + 1, x4_10, x5_11 =>
    if p1 ≤ x5_11 then
      K_7 x4_10
    else
      if x4_10 = true then
        mck x5_11 400 <|
        mjn (fun (y_17 : Bool) =>
        mck (x5_11 + (1 : Int32)) 400 <|
        mjn (fun (y_22 : Bool) =>
        if (bz y_17) = (bz y_22) then
          fX6_shiftsBy_L16 p1 K_7 t x3_3 n true (x5_11 + (2 : Int32))
        else
          fX6_shiftsBy_L16 p1 K_7 t x3_3 n false (x5_11 + (2 : Int32))) fun K_23 =>
        if ((tw_tape t) (Int32.toNatClampNeg (x5_11 + (1 : Int32)))) = (1 : Int32) then
          K_23 true
        else
          K_23 false) fun K_18 =>
        if (mrm (((tw_tape t) (Int32.toNatClampNeg x5_11)) + x3_3) (7 : Int32)) = (6 : Int32) then
          K_18 true
        else
          K_18 false
      else
        K_7 x4_10
noncomputable def fX6_shiftsBy_L4 (p1 : Int32) (t : Tw) : Nat → Int32 → Int32 → Option (Int32)
  | 0, _, _ => none
  | n + 1, x2_2, x3_3 =>
    if (7 : Int32) ≤ x3_3 then
      some x2_2
    else
      mjn (fun (x4_6 : Bool) =>
      if x4_6 = true then
        fX6_shiftsBy_L4 p1 t n (x2_2 ||| ((1 : Int32) <<< (x3_3 &&& (31 : Int32)))) (x3_3 + (1 : Int32))
      else
        fX6_shiftsBy_L4 p1 t n (x2_2 ||| (0 : Int32)) (x3_3 + (1 : Int32))) fun K_7 =>
      fX6_shiftsBy_L16 p1 K_7 t x3_3 mFU true (0 : Int32)
noncomputable def fX6_shiftsBy (t : Tw) (p1 : Int32) : Option (Int32) :=
  fX6_shiftsBy_L4 p1 t mFU (0 : Int32) (0 : Int32)
theorem kX6_shiftsBy {R : Room} {s : State} {args : Array Value} {own : String} {idx mc ms : Nat} {rm : Room} (hts : ∀ w ∈ lw_all, w.before args s = true) (hl : Cond.methodLink own idx yX6_shiftsBy ∈ lw_all) (hrc : rm.cells = mc) (hrs : rm.slots = ms) (hR : rm.frames + 1 ≤ R.frames ∧ 8 + (6 + 11) + rm.locals ≤ R.locals) : CallW R s args own RX6 idx yX6_shiftsBy cX6_shiftsBy 6 (some .int) (ws_ yX6_shiftsBy cX6_shiftsBy 6 (some .int)) rm mc ms 1 :=
  cwV 1 hts (lw_V hl q2377 qs100 q115 q2378) rfl hrc hrs (by decide +kernel) hR
set_option maxHeartbeats 4000000 in
set_option maxRecDepth 100000 in
theorem mtX6_shiftsBy (l : Launch) (D : va_G) (k : Nat → ClassId) (a : Nat → Nat) (Z : zZ) (hOK : zOK D zCl (zTys k) Z) (t : Tw) (p1 : Int32) (r : Int32) (hrun : fX6_shiftsBy t p1 = some r) :
    CtR l yX6_shiftsBy cX6_shiftsBy 6 (some .int) rX6_shiftsBy Z D zCl (cT k a t) [.ref (a 0), .int p1] (some (.int r)) := by
  refine CtR.of (by decide) (Nat.le_of_ble_eq_true rfl) ?_
  intro p e s m args below meth c hE hP hz ls hl
  obtain ⟨hx, hb, hr, hml, hown, hts, hlocks, hname⟩ := hE
  have hown : s.vm.findClass RX6 = some m.cls := hown
  have hK := hOK.1 _ _ _ hz
  have hl : lv_has ls 6 [(0, .ref (a 0)), (1, .int p1)] := hl
  unfold fX6_shiftsBy at hrun
  refine lv_iconst (v := (0 : Int32)) hx hb dX6_shiftsBy_0 (by decide) ?_
  refine lv_istore_n (lv' := [(2, .int (0 : Int32)), (0, .ref (a 0)), (1, .int p1)]) hx hb dX6_shiftsBy_1 rfl hl (by decide) rfl (fun ls hl => ?_)
  refine lv_iconst (v := (0 : Int32)) hx hb dX6_shiftsBy_2 (by decide) ?_
  refine lv_istore_n (lv' := [(3, .int (0 : Int32)), (2, .int (0 : Int32)), (0, .ref (a 0)), (1, .int p1)]) hx hb dX6_shiftsBy_3 rfl hl (by decide) rfl (fun ls hl => ?_)
  have hL_1 : ∀ n : Nat, ∀ (x2_2 : Int32) (x3_3 : Int32), ∀ ls : Array Slot, lv_has ls 6 [(0, .ref (a 0)), (1, .int p1), (2, .int x2_2), (3, .int x3_3)] → fX6_shiftsBy_L4 p1 t n x2_2 x3_3 = some r → W p l e rX6_shiftsBy s m args below meth c s.heap [] 0 0 (MQ below (QRr (some (.int r))) args s 0 0 (fun _ => False)) (F0 m 4 ls []) := by
    intro n
    induction n with
    | zero =>
      intro x2_2 x3_3 ls hl hrun
      exact nomatch hrun
    | succ n ih =>
      intro x2_2 x3_3 ls hl hrun
      rw [fX6_shiftsBy_L4.eq_2] at hrun
      refine lv_iload_n hx hb dX6_shiftsBy_4 rfl (lv_at hl 3 rfl) ?_
      refine lv_bipush (v := (7 : Int32)) hx hb dX6_shiftsBy_5 (by decide) ?_
      refine lv_icmp_ge (tgt := 104) hx hb dX6_shiftsBy_7 (by decide) (fun c_4 => ?_) (fun c_4 => ?_)
      · have hrun := mif_p c_4 hrun
        refine lv_iload_n hx hb dX6_shiftsBy_104 rfl (lv_at hl 2 rfl) ?_
        cases hrun
        exact retR_i hx hb hr hlocks rfl dX6_shiftsBy_105
      have hrun := mif_n c_4 hrun
      refine lv_iconst (v := (1 : Int32)) hx hb dX6_shiftsBy_10 (by decide) ?_
      refine lv_istore (lv' := [(4, .int (1 : Int32)), (0, .ref (a 0)), (1, .int p1), (2, .int x2_2), (3, .int x3_3)]) hx hb dX6_shiftsBy_11 hl (by decide) rfl (fun ls hl => ?_)
      refine lv_iconst (v := (0 : Int32)) hx hb dX6_shiftsBy_13 (by decide) ?_
      refine lv_istore (lv' := [(5, .int (0 : Int32)), (4, .int (1 : Int32)), (0, .ref (a 0)), (1, .int p1), (2, .int x2_2), (3, .int x3_3)]) hx hb dX6_shiftsBy_14 hl (by decide) rfl (fun ls hl => ?_)
      obtain ⟨K_7, hK_7, hrun⟩ := mjn_s hrun
      have hj_5 : ∀ (x4_6 : Bool), ∀ ls : Array Slot, lv_has ls 6 [(0, .ref (a 0)), (1, .int p1), (2, .int x2_2), (3, .int x3_3), (4, .int (bz x4_6))] → K_7 x4_6 = some r → W p l e rX6_shiftsBy s m args below meth c s.heap [] 0 0 (MQ below (QRr (some (.int r))) args s 0 0 (fun _ => False)) (F0 m 83 ls []) := by
        intro x4_6 ls hl hrun
        rw [hK_7] at hrun
        refine lv_iload_n hx hb dX6_shiftsBy_83 rfl (lv_at hl 2 rfl) ?_
        refine lv_iload hx hb dX6_shiftsBy_84 (lv_at hl 4 rfl) ?_
        refine lv_if_eq (tgt := 95) hx hb dX6_shiftsBy_86 (by decide) (fun c_8 => ?_) (fun c_8 => ?_)
        · have hrun := mif_n (bz_z c_8) hrun
          refine lv_iconst (v := (0 : Int32)) hx hb dX6_shiftsBy_95 (by decide) ?_
          refine lv_ior hx hb dX6_shiftsBy_96 ?_
          refine lv_istore_n (lv' := [(2, .int (x2_2 ||| (0 : Int32))), (0, .ref (a 0)), (1, .int p1), (3, .int x3_3), (4, .int (bz x4_6))]) hx hb dX6_shiftsBy_97 rfl hl (by decide) rfl (fun ls hl => ?_)
          refine lv_iinc (v := (x3_3 + (1 : Int32))) (lv' := [(3, .int (x3_3 + (1 : Int32))), (2, .int (x2_2 ||| (0 : Int32))), (0, .ref (a 0)), (1, .int p1), (4, .int (bz x4_6))]) hx hb dX6_shiftsBy_98 hl (k := 3) rfl rfl (by decide) rfl (fun ls hl => ?_)
          refine lv_goto (tgt := 4) hx hb dX6_shiftsBy_101 (by decide) ?_
          exact ih (x2_2 ||| (0 : Int32)) (x3_3 + (1 : Int32)) ls (lv_sub hl [2, 3, 1, 0] rfl) hrun
        have hrun := mif_p (bz_nz c_8) hrun
        refine lv_iconst (v := (1 : Int32)) hx hb dX6_shiftsBy_89 (by decide) ?_
        refine lv_iload_n hx hb dX6_shiftsBy_90 rfl (lv_at hl 3 rfl) ?_
        refine lv_ishl hx hb dX6_shiftsBy_91 ?_
        refine lv_goto (tgt := 96) hx hb dX6_shiftsBy_92 (by decide) ?_
        refine lv_ior hx hb dX6_shiftsBy_96 ?_
        refine lv_istore_n (lv' := [(2, .int (x2_2 ||| ((1 : Int32) <<< (x3_3 &&& (31 : Int32))))), (0, .ref (a 0)), (1, .int p1), (3, .int x3_3), (4, .int (bz x4_6))]) hx hb dX6_shiftsBy_97 rfl hl (by decide) rfl (fun ls hl => ?_)
        refine lv_iinc (v := (x3_3 + (1 : Int32))) (lv' := [(3, .int (x3_3 + (1 : Int32))), (2, .int (x2_2 ||| ((1 : Int32) <<< (x3_3 &&& (31 : Int32))))), (0, .ref (a 0)), (1, .int p1), (4, .int (bz x4_6))]) hx hb dX6_shiftsBy_98 hl (k := 3) rfl rfl (by decide) rfl (fun ls hl => ?_)
        refine lv_goto (tgt := 4) hx hb dX6_shiftsBy_101 (by decide) ?_
        exact ih (x2_2 ||| ((1 : Int32) <<< (x3_3 &&& (31 : Int32)))) (x3_3 + (1 : Int32)) ls (lv_sub hl [2, 3, 1, 0] rfl) hrun
      have hL_9 : ∀ n : Nat, ∀ (x4_10 : Bool) (x5_11 : Int32), ∀ ls : Array Slot, lv_has ls 6 [(0, .ref (a 0)), (1, .int p1), (2, .int x2_2), (3, .int x3_3), (4, .int (bz x4_10)), (5, .int x5_11)] → fX6_shiftsBy_L16 p1 K_7 t x3_3 n x4_10 x5_11 = some r → W p l e rX6_shiftsBy s m args below meth c s.heap [] 0 0 (MQ below (QRr (some (.int r))) args s 0 0 (fun _ => False)) (F0 m 16 ls []) := by
        intro n
        induction n with
        | zero =>
          intro x4_10 x5_11 ls hl hrun
          exact nomatch hrun
        | succ n ih =>
          intro x4_10 x5_11 ls hl hrun
          rw [fX6_shiftsBy_L16.eq_2] at hrun
          refine lv_iload hx hb dX6_shiftsBy_16 (lv_at hl 5 rfl) ?_
          refine lv_iload_n hx hb dX6_shiftsBy_18 rfl (lv_at hl 1 rfl) ?_
          refine lv_icmp_ge (tgt := 83) hx hb dX6_shiftsBy_19 (by decide) (fun c_12 => ?_) (fun c_12 => ?_)
          · have hrun := mif_p c_12 hrun
            exact hj_5 x4_10 ls (lv_sub hl [0, 1, 2, 3, 4] rfl) hrun
          have hrun := mif_n c_12 hrun
          refine lv_iload hx hb dX6_shiftsBy_22 (lv_at hl 4 rfl) ?_
          refine lv_if_eq (tgt := 83) hx hb dX6_shiftsBy_24 (by decide) (fun c_13 => ?_) (fun c_13 => ?_)
          · have hrun := mif_n (bz_z c_13) hrun
            exact hj_5 x4_10 ls (lv_sub hl [0, 1, 2, 3, 4] rfl) hrun
          have hrun := mif_p (bz_nz c_13) hrun
          refine lv_aload_n hx hb dX6_shiftsBy_27 rfl (lv_at hl 0 rfl) ?_
          refine va_get (ci := 0) (v := .ref (a 5)) (C := RX6) (T := TX6) (N := 22) hx hb hts in_X6 hown hK hP 0 rfl rfl 7 (by decide) (hts _ q1909) (fun _ h9 => h9) rfl dX6_shiftsBy_28 ?_
          refine lv_iload hx hb dX6_shiftsBy_31 (lv_at hl 5 rfl) ?_
          obtain ⟨hb_14, hrun⟩ := mck_s rfl hrun
          refine va_iald hx hb hK hP 5 0 rfl rfl hb_14 dX6_shiftsBy_33 ?_
          refine lv_iload_n hx hb dX6_shiftsBy_34 rfl (lv_at hl 3 rfl) ?_
          refine lv_iadd hx hb dX6_shiftsBy_35 ?_
          refine lv_bipush (v := (7 : Int32)) hx hb dX6_shiftsBy_36 (by decide) ?_
          refine lv_irem hx hb dX6_shiftsBy_38 (by decide) ?_
          refine lv_bipush (v := (6 : Int32)) hx hb dX6_shiftsBy_39 (by decide) ?_
          obtain ⟨K_18, hK_18, hrun⟩ := mjn_s hrun
          have hj_16 : ∀ (y_17 : Bool), ∀ ls : Array Slot, lv_has ls 6 [(0, .ref (a 0)), (1, .int p1), (2, .int x2_2), (3, .int x3_3), (5, .int x5_11)] → K_18 y_17 = some r → W p l e rX6_shiftsBy s m args below meth c s.heap [] 0 0 (MQ below (QRr (some (.int r))) args s 0 0 (fun _ => False)) (F0 m 49 ls [.int (bz y_17)]) := by
            intro y_17 ls hl hrun
            rw [hK_18] at hrun
            refine lv_aload_n hx hb dX6_shiftsBy_49 rfl (lv_at hl 0 rfl) ?_
            refine va_get (ci := 0) (v := .ref (a 5)) (C := RX6) (T := TX6) (N := 22) hx hb hts in_X6 hown hK hP 0 rfl rfl 7 (by decide) (hts _ q1909) (fun _ h9 => h9) rfl dX6_shiftsBy_50 ?_
            refine lv_iload hx hb dX6_shiftsBy_53 (lv_at hl 4 rfl) ?_
            refine lv_iconst (v := (1 : Int32)) hx hb dX6_shiftsBy_55 (by decide) ?_
            refine lv_iadd hx hb dX6_shiftsBy_56 ?_
            obtain ⟨hb_19, hrun⟩ := mck_s rfl hrun
            refine va_iald hx hb hK hP 5 0 rfl rfl hb_19 dX6_shiftsBy_57 ?_
            refine lv_iconst (v := (1 : Int32)) hx hb dX6_shiftsBy_58 (by decide) ?_
            obtain ⟨K_23, hK_23, hrun⟩ := mjn_s hrun
            have hj_21 : ∀ (y_22 : Bool), ∀ ls : Array Slot, lv_has ls 6 [(0, .ref (a 0)), (1, .int p1), (2, .int x2_2), (3, .int x3_3), (5, .int x5_11)] → K_23 y_22 = some r → W p l e rX6_shiftsBy s m args below meth c s.heap [] 0 0 (MQ below (QRr (some (.int r))) args s 0 0 (fun _ => False)) (F0 m 67 ls [.int (bz y_22), .int (bz y_17)]) := by
              intro y_22 ls hl hrun
              rw [hK_23] at hrun
              refine lv_icmp_ne (tgt := 74) hx hb dX6_shiftsBy_67 (by decide) (fun c_24 => ?_) (fun c_24 => ?_)
              · have hrun := mif_n c_24 hrun
                refine lv_iconst (v := (0 : Int32)) hx hb dX6_shiftsBy_74 (by decide) ?_
                refine lv_istore (lv' := [(4, .int (0 : Int32)), (0, .ref (a 0)), (1, .int p1), (2, .int x2_2), (3, .int x3_3), (5, .int x5_11)]) hx hb dX6_shiftsBy_75 hl (by decide) rfl (fun ls hl => ?_)
                refine lv_iinc (v := (x5_11 + (2 : Int32))) (lv' := [(5, .int (x5_11 + (2 : Int32))), (4, .int (0 : Int32)), (0, .ref (a 0)), (1, .int p1), (2, .int x2_2), (3, .int x3_3)]) hx hb dX6_shiftsBy_77 hl (k := 5) rfl rfl (by decide) rfl (fun ls hl => ?_)
                refine lv_goto (tgt := 16) hx hb dX6_shiftsBy_80 (by decide) ?_
                exact ih false (x5_11 + (2 : Int32)) ls (lv_sub hl [2, 3, 4, 5, 1, 0] rfl) hrun
              have hrun := mif_p c_24 hrun
              refine lv_iconst (v := (1 : Int32)) hx hb dX6_shiftsBy_70 (by decide) ?_
              refine lv_goto (tgt := 75) hx hb dX6_shiftsBy_71 (by decide) ?_
              refine lv_istore (lv' := [(4, .int (1 : Int32)), (0, .ref (a 0)), (1, .int p1), (2, .int x2_2), (3, .int x3_3), (5, .int x5_11)]) hx hb dX6_shiftsBy_75 hl (by decide) rfl (fun ls hl => ?_)
              refine lv_iinc (v := (x5_11 + (2 : Int32))) (lv' := [(5, .int (x5_11 + (2 : Int32))), (4, .int (1 : Int32)), (0, .ref (a 0)), (1, .int p1), (2, .int x2_2), (3, .int x3_3)]) hx hb dX6_shiftsBy_77 hl (k := 5) rfl rfl (by decide) rfl (fun ls hl => ?_)
              refine lv_goto (tgt := 16) hx hb dX6_shiftsBy_80 (by decide) ?_
              exact ih true (x5_11 + (2 : Int32)) ls (lv_sub hl [2, 3, 4, 5, 1, 0] rfl) hrun
            refine lv_icmp_ne (tgt := 66) hx hb dX6_shiftsBy_59 (by decide) (fun c_20 => ?_) (fun c_20 => ?_)
            · have hrun := mif_n c_20 hrun
              refine lv_iconst (v := (0 : Int32)) hx hb dX6_shiftsBy_66 (by decide) ?_
              exact hj_21 false ls (lv_sub hl [0, 1, 2, 3, 4] rfl) hrun
            have hrun := mif_p c_20 hrun
            refine lv_iconst (v := (1 : Int32)) hx hb dX6_shiftsBy_62 (by decide) ?_
            refine lv_goto (tgt := 67) hx hb dX6_shiftsBy_63 (by decide) ?_
            exact hj_21 true ls (lv_sub hl [0, 1, 2, 3, 4] rfl) hrun
          refine lv_icmp_ne (tgt := 48) hx hb dX6_shiftsBy_41 (by decide) (fun c_15 => ?_) (fun c_15 => ?_)
          · have hrun := mif_n c_15 hrun
            refine lv_iconst (v := (0 : Int32)) hx hb dX6_shiftsBy_48 (by decide) ?_
            exact hj_16 false ls (lv_sub hl [0, 1, 2, 3, 5] rfl) hrun
          have hrun := mif_p c_15 hrun
          refine lv_iconst (v := (1 : Int32)) hx hb dX6_shiftsBy_44 (by decide) ?_
          refine lv_goto (tgt := 49) hx hb dX6_shiftsBy_45 (by decide) ?_
          exact hj_16 true ls (lv_sub hl [0, 1, 2, 3, 5] rfl) hrun
      exact hL_9 mFU true (0 : Int32) ls (lv_sub hl [2, 3, 4, 5, 1, 0] rfl) hrun
  exact hL_1 mFU (0 : Int32) (0 : Int32) ls (lv_sub hl [2, 3, 1, 0] rfl) hrun
def rX6_ask : Room := { frames := 1, cells := 0, slots := 0, locals := 25 }
noncomputable def fX6_ask_L46 (t_8 : Tw) (r_11 : Int32) : Nat → Int32 → Int32 → Int32 → Option (Int32 × Tw)
  | 0, _, _, _ => none
  | n + 1, x3_13, x4_14, x5_15 =>
    if (7 : Int32) ≤ x5_15 then
      some (x3_13, t_8)
    else
      mob (fX6_bits r_11) fun r_18 =>
      if r_18 ≤ (1 : Int32) then
        some (x3_13, t_8)
      else
        mob (fX6_isOf r_11 (mrm ((13 : Int32) - x5_15) (7 : Int32))) fun r_21 =>
        mjn (fun (y_24 : Bool) =>
        mob (fX6_bits r_11) fun r_27 =>
        mob (fX6_greater (bz y_24) (r_27 - (bz y_24))) fun r_29 =>
        if r_29 < x4_14 then
          mob (fX6_bits r_11) fun r_32 =>
          mob (fX6_greater (bz y_24) (r_32 - (bz y_24))) fun r_34 =>
          fX6_ask_L46 t_8 r_11 n x5_15 r_34 (x5_15 + (1 : Int32))
        else
          fX6_ask_L46 t_8 r_11 n x3_13 x4_14 (x5_15 + (1 : Int32))) fun K_25 =>
        if r_21 = true then
          K_25 true
        else
          K_25 false
noncomputable def fX6_ask (t : Tw) : Option (Int32 × Tw) :=
  mo2 (fX6_heard t (7 : Int32)) fun r_3 t_2 =>
  mjn (fun (y_6 : Bool) =>
  mlt (tw_s_thrown t_2 (bz y_6)) fun t_8 =>
  if (tw_thrown t_8) ≤ (0 : Int32) then
    mob (fX6_shiftsBy t_8 r_3) fun r_11 =>
    fX6_ask_L46 t_8 r_11 mFU (-1 : Int32) (2000000000 : Int32) (0 : Int32)
  else
    some ((0 : Int32), t_8)) fun K_7 =>
  if r_3 = (-1 : Int32) then
    K_7 true
  else
    K_7 false
theorem kX6_ask {R : Room} {s : State} {args : Array Value} {own : String} {idx mc ms : Nat} {rm : Room} (hts : ∀ w ∈ lw_all, w.before args s = true) (hl : Cond.methodLink own idx yX6_ask ∈ lw_all) (hrc : rm.cells = mc) (hrs : rm.slots = ms) (hR : rm.frames + 1 ≤ R.frames ∧ 8 + (7 + 11) + rm.locals ≤ R.locals) : CallW R s args own RX6 idx yX6_ask cX6_ask 7 (some .int) (ws_ yX6_ask cX6_ask 7 (some .int)) rm mc ms 0 :=
  cwV 0 hts (lw_V hl q2380 q2381 q115 q2382) rfl hrc hrs (by decide +kernel) hR
set_option maxHeartbeats 4000000 in
set_option maxRecDepth 100000 in
theorem mtX6_ask (l : Launch) (D : va_G) (k : Nat → ClassId) (a : Nat → Nat) (Z : zZ) (hOK : zOK D zCl (zTys k) Z) (t : Tw) (r : Int32) (tt : Tw) (hrun : fX6_ask t = some (r, tt)) :
    CtW l yX6_ask cX6_ask 7 (some .int) rX6_ask Z D zCl (cT k a t) [.ref (a 0)] (fun r' w' => r' = (some (.int r)) ∧ w' = cT k a tt) 0 0 := by
  refine CtW.of (by decide) (Nat.le_of_ble_eq_true rfl) ?_
  intro p e s m args below meth c A hE hA hP hD hS hz ls hl
  obtain ⟨hx, hb, hr, hml, hown, hts, hlocks, hname⟩ := hE
  have hown : s.vm.findClass RX6 = some m.cls := hown
  have hK := hOK.1 _ _ _ hz
  have hl : lv_has ls 7 [(0, .ref (a 0))] := hl
  unfold fX6_ask at hrun
  refine lv_aload_n hx hb dX6_ask_0 rfl (lv_at hl 0 rfl) ?_
  refine lv_bipush (v := (7 : Int32)) hx hb dX6_ask_1 (by decide) ?_
  obtain ⟨r_3, t_2, hc_1, hrun⟩ := mo2_s rfl hrun
  refine cWV00 (As := [.int (7 : Int32)]) (ci := 0) ⟨hx, hb, hml, hown, hts⟩ hOK hz hS hA hP hD (mtX6_heard l D k a Z hOK _ _ _ _ hc_1) (kX6_heard hts q2371 rfl rfl ⟨Nat.le_of_ble_eq_true rfl, Nat.le_of_ble_eq_true rfl⟩) 0 rfl rfl rfl hl.1 rfl (lv_room (Nat.le_of_ble_eq_true rfl)) ⟨Nat.le_of_ble_eq_true rfl, Nat.le_of_ble_eq_true rfl⟩ dX6_ask_3 (fun r_ w_ H locs hq hP hD hS => ?_)
  obtain ⟨rfl, rfl⟩ := hq
  refine lv_istore_n (lv' := [(1, .int r_3), (0, .ref (a 0))]) hx hb dX6_ask_6 rfl hl (by decide) rfl (fun ls hl => ?_)
  refine lv_aload_n hx hb dX6_ask_7 rfl (lv_at hl 1 rfl) ?_
  refine lv_iload_n hx hb dX6_ask_8 rfl (lv_at hl 0 rfl) ?_
  refine lv_iconst (v := (-1 : Int32)) hx hb dX6_ask_9 (by decide) ?_
  obtain ⟨K_7, hK_7, hrun⟩ := mjn_s hrun
  have hj_5 : ∀ (y_6 : Bool), ∀ (H : Heap) (locs : List Loc), va_P D zCl (cT k a t_2) H → va_D A (cT k a t_2) → va_S A s.heap H locs → ∀ ls : Array Slot, lv_has ls 7 [(0, .ref (a 0)), (1, .int r_3)] → K_7 y_6 = some (r, tt) → W p l e rX6_ask s m args below meth c H locs 0 0 (MQ below (QWr (fun r' w' => r' = (some (.int r)) ∧ w' = cT k a tt) D zCl A) args s 0 0 A) (F0 m 18 ls [.int (bz y_6), .ref (a 0)]) := by
    intro y_6 H locs hP hD hS ls hl hrun
    rw [hK_7] at hrun
    refine va_put (ci := 0) (v := .int (bz y_6)) (ty := tyX6 0) (C := RX6) (T := TX6) (N := 22) hx hb hts in_X6 tyX6 tyX6_ok nmX6 hown hK hP hD hS 0 rfl rfl 0 (by decide) (hts _ q1902) (fun _ h9 => h9) rfl (tyX6_ok 0 (by decide)) rfl rfl (Nat.le_of_ble_eq_true rfl) dX6_ask_18 (fun H locs hP hD hS => ?_)
    have hP : va_P D zCl (cT k a (tw_s_thrown t_2 (bz y_6))) H := hP
    have hD : va_D A (cT k a (tw_s_thrown t_2 (bz y_6))) := hD
    obtain ⟨t_8, et_8⟩ : ∃ z : Tw, z = (tw_s_thrown t_2 (bz y_6)) := ⟨_, rfl⟩
    rw [← et_8] at hP hD
    have hrun := mlt_s hrun t_8 et_8
    refine lv_aload_n hx hb dX6_ask_21 rfl (lv_at hl 0 rfl) ?_
    refine va_get (ci := 0) (v := .int (tw_thrown t_8)) (C := RX6) (T := TX6) (N := 22) hx hb hts in_X6 hown hK hP 0 rfl rfl 0 (by decide) (hts _ q1902) (fun _ h9 => h9) rfl dX6_ask_22 ?_
    refine lv_if_le (tgt := 30) hx hb dX6_ask_25 (by decide) (fun c_9 => ?_) (fun c_9 => ?_)
    · have hrun := mif_p c_9 hrun
      refine lv_aload_n hx hb dX6_ask_30 rfl (lv_at hl 0 rfl) ?_
      refine lv_iload_n hx hb dX6_ask_31 rfl (lv_at hl 1 rfl) ?_
      obtain ⟨r_11, hc_10, hrun⟩ := mob_s rfl hrun
      refine cRV (As := [.int r_3]) (ci := 0) ⟨hx, hb, hml, hown, hts⟩ hOK hz hS hP (mtX6_shiftsBy l D k a Z hOK _ _ _ hc_10) (kX6_shiftsBy hts q2375 rfl rfl ⟨Nat.le_of_ble_eq_true rfl, Nat.le_of_ble_eq_true rfl⟩) 0 rfl rfl rfl hl.1 rfl (lv_room (Nat.le_of_ble_eq_true rfl)) ⟨Nat.le_of_ble_eq_true rfl, Nat.le_of_ble_eq_true rfl⟩ dX6_ask_32 ?_
      refine lv_istore_n (lv' := [(2, .int r_11), (0, .ref (a 0)), (1, .int r_3)]) hx hb dX6_ask_35 rfl hl (by decide) rfl (fun ls hl => ?_)
      refine lv_iconst (v := (-1 : Int32)) hx hb dX6_ask_36 (by decide) ?_
      refine lv_istore_n (lv' := [(3, .int (-1 : Int32)), (2, .int r_11), (0, .ref (a 0)), (1, .int r_3)]) hx hb dX6_ask_37 rfl hl (by decide) rfl (fun ls hl => ?_)
      refine lv_ldcw (v := (2000000000 : Int32)) hx hb hown (hts _ q2350) dX6_ask_38 ?_
      refine lv_istore (lv' := [(4, .int (2000000000 : Int32)), (3, .int (-1 : Int32)), (2, .int r_11), (0, .ref (a 0)), (1, .int r_3)]) hx hb dX6_ask_41 hl (by decide) rfl (fun ls hl => ?_)
      refine lv_iconst (v := (0 : Int32)) hx hb dX6_ask_43 (by decide) ?_
      refine lv_istore (lv' := [(5, .int (0 : Int32)), (4, .int (2000000000 : Int32)), (3, .int (-1 : Int32)), (2, .int r_11), (0, .ref (a 0)), (1, .int r_3)]) hx hb dX6_ask_44 hl (by decide) rfl (fun ls hl => ?_)
      have hL_12 : ∀ n : Nat, ∀ (x3_13 : Int32) (x4_14 : Int32) (x5_15 : Int32), ∀ (H : Heap) (locs : List Loc), va_P D zCl (cT k a t_8) H → va_D A (cT k a t_8) → va_S A s.heap H locs → ∀ ls : Array Slot, lv_has ls 7 [(2, .int r_11), (3, .int x3_13), (4, .int x4_14), (5, .int x5_15)] → fX6_ask_L46 t_8 r_11 n x3_13 x4_14 x5_15 = some (r, tt) → W p l e rX6_ask s m args below meth c H locs 0 0 (MQ below (QWr (fun r' w' => r' = (some (.int r)) ∧ w' = cT k a tt) D zCl A) args s 0 0 A) (F0 m 46 ls []) := by
        intro n
        induction n with
        | zero =>
          intro x3_13 x4_14 x5_15 H locs hP hD hS ls hl hrun
          exact nomatch hrun
        | succ n ih =>
          intro x3_13 x4_14 x5_15 H locs hP hD hS ls hl hrun
          rw [fX6_ask_L46.eq_2] at hrun
          refine lv_iload hx hb dX6_ask_46 (lv_at hl 3 rfl) ?_
          refine lv_bipush (v := (7 : Int32)) hx hb dX6_ask_48 (by decide) ?_
          refine lv_icmp_ge (tgt := 126) hx hb dX6_ask_50 (by decide) (fun c_16 => ?_) (fun c_16 => ?_)
          · have hrun := mif_p c_16 hrun
            refine lv_iload_n hx hb dX6_ask_126 rfl (lv_at hl 1 rfl) ?_
            cases hrun
            exact retW_i hx hb hr hlocks hP hD hS ⟨rfl, rfl⟩ dX6_ask_127
          have hrun := mif_n c_16 hrun
          refine lv_iload_n hx hb dX6_ask_53 rfl (lv_at hl 0 rfl) ?_
          obtain ⟨r_18, hc_17, hrun⟩ := mob_s rfl hrun
          refine cRS (ws := []) (As := [.int r_11]) ⟨hx, hb, hml, hown, hts⟩ hOK hz hS zP0 (mtX6_bits l D Z hOK _ _ hc_17) (kX6_bits hts q2148 rfl rfl ⟨Nat.le_of_ble_eq_true rfl, Nat.le_of_ble_eq_true rfl⟩) rfl hl.1 rfl (lv_room (Nat.le_of_ble_eq_true rfl)) ⟨Nat.le_of_ble_eq_true rfl, Nat.le_of_ble_eq_true rfl⟩ dX6_ask_54 ?_
          refine lv_iconst (v := (1 : Int32)) hx hb dX6_ask_57 (by decide) ?_
          refine lv_icmp_le (tgt := 126) hx hb dX6_ask_58 (by decide) (fun c_19 => ?_) (fun c_19 => ?_)
          · have hrun := mif_p c_19 hrun
            refine lv_iload_n hx hb dX6_ask_126 rfl (lv_at hl 1 rfl) ?_
            cases hrun
            exact retW_i hx hb hr hlocks hP hD hS ⟨rfl, rfl⟩ dX6_ask_127
          have hrun := mif_n c_19 hrun
          refine lv_iload_n hx hb dX6_ask_61 rfl (lv_at hl 0 rfl) ?_
          refine lv_bipush (v := (13 : Int32)) hx hb dX6_ask_62 (by decide) ?_
          refine lv_iload hx hb dX6_ask_64 (lv_at hl 3 rfl) ?_
          refine lv_isub hx hb dX6_ask_66 ?_
          refine lv_bipush (v := (7 : Int32)) hx hb dX6_ask_67 (by decide) ?_
          refine lv_irem hx hb dX6_ask_69 (by decide) ?_
          obtain ⟨r_21, hc_20, hrun⟩ := mob_s rfl hrun
          refine cRS (ws := []) (As := [.int r_11, .int (mrm ((13 : Int32) - x5_15) (7 : Int32))]) ⟨hx, hb, hml, hown, hts⟩ hOK hz hS zP0 (mtX6_isOf l D Z hOK _ _ _ hc_20) (kX6_isOf hts q2175 rfl rfl ⟨Nat.le_of_ble_eq_true rfl, Nat.le_of_ble_eq_true rfl⟩) rfl hl.1 rfl (lv_room (Nat.le_of_ble_eq_true rfl)) ⟨Nat.le_of_ble_eq_true rfl, Nat.le_of_ble_eq_true rfl⟩ dX6_ask_70 ?_
          obtain ⟨K_25, hK_25, hrun⟩ := mjn_s hrun
          have hj_23 : ∀ (y_24 : Bool), ∀ (H : Heap) (locs : List Loc), va_P D zCl (cT k a t_8) H → va_D A (cT k a t_8) → va_S A s.heap H locs → ∀ ls : Array Slot, lv_has ls 7 [(2, .int r_11), (3, .int x3_13), (4, .int x4_14), (5, .int x5_15)] → K_25 y_24 = some (r, tt) → W p l e rX6_ask s m args below meth c H locs 0 0 (MQ below (QWr (fun r' w' => r' = (some (.int r)) ∧ w' = cT k a tt) D zCl A) args s 0 0 A) (F0 m 81 ls [.int (bz y_24)]) := by
            intro y_24 H locs hP hD hS ls hl hrun
            rw [hK_25] at hrun
            refine lv_istore (lv' := [(6, .int (bz y_24)), (2, .int r_11), (3, .int x3_13), (4, .int x4_14), (5, .int x5_15)]) hx hb dX6_ask_81 hl (by decide) rfl (fun ls hl => ?_)
            refine lv_iload hx hb dX6_ask_83 (lv_at hl 0 rfl) ?_
            refine lv_iload_n hx hb dX6_ask_85 rfl (lv_at hl 1 rfl) ?_
            obtain ⟨r_27, hc_26, hrun⟩ := mob_s rfl hrun
            refine cRS (ws := []) (As := [.int r_11]) ⟨hx, hb, hml, hown, hts⟩ hOK hz hS zP0 (mtX6_bits l D Z hOK _ _ hc_26) (kX6_bits hts q2148 rfl rfl ⟨Nat.le_of_ble_eq_true rfl, Nat.le_of_ble_eq_true rfl⟩) rfl hl.1 rfl (lv_room (Nat.le_of_ble_eq_true rfl)) ⟨Nat.le_of_ble_eq_true rfl, Nat.le_of_ble_eq_true rfl⟩ dX6_ask_86 ?_
            refine lv_iload hx hb dX6_ask_89 (lv_at hl 0 rfl) ?_
            refine lv_isub hx hb dX6_ask_91 ?_
            obtain ⟨r_29, hc_28, hrun⟩ := mob_s rfl hrun
            refine cRS (ws := []) (As := [.int (bz y_24), .int (r_27 - (bz y_24))]) ⟨hx, hb, hml, hown, hts⟩ hOK hz hS zP0 (mtX6_greater l D Z hOK _ _ _ hc_28) (kX6_greater hts q2260 rfl rfl ⟨Nat.le_of_ble_eq_true rfl, Nat.le_of_ble_eq_true rfl⟩) rfl hl.1 rfl (lv_room (Nat.le_of_ble_eq_true rfl)) ⟨Nat.le_of_ble_eq_true rfl, Nat.le_of_ble_eq_true rfl⟩ dX6_ask_92 ?_
            refine lv_iload hx hb dX6_ask_95 (lv_at hl 3 rfl) ?_
            refine lv_icmp_lt (tgt := 103) hx hb dX6_ask_97 (by decide) (fun c_30 => ?_) (fun c_30 => ?_)
            · have hrun := mif_p c_30 hrun
              refine lv_iload hx hb dX6_ask_103 (lv_at hl 0 rfl) ?_
              refine lv_iload_n hx hb dX6_ask_105 rfl (lv_at hl 1 rfl) ?_
              obtain ⟨r_32, hc_31, hrun⟩ := mob_s rfl hrun
              refine cRS (ws := []) (As := [.int r_11]) ⟨hx, hb, hml, hown, hts⟩ hOK hz hS zP0 (mtX6_bits l D Z hOK _ _ hc_31) (kX6_bits hts q2148 rfl rfl ⟨Nat.le_of_ble_eq_true rfl, Nat.le_of_ble_eq_true rfl⟩) rfl hl.1 rfl (lv_room (Nat.le_of_ble_eq_true rfl)) ⟨Nat.le_of_ble_eq_true rfl, Nat.le_of_ble_eq_true rfl⟩ dX6_ask_106 ?_
              refine lv_iload hx hb dX6_ask_109 (lv_at hl 0 rfl) ?_
              refine lv_isub hx hb dX6_ask_111 ?_
              obtain ⟨r_34, hc_33, hrun⟩ := mob_s rfl hrun
              refine cRS (ws := []) (As := [.int (bz y_24), .int (r_32 - (bz y_24))]) ⟨hx, hb, hml, hown, hts⟩ hOK hz hS zP0 (mtX6_greater l D Z hOK _ _ _ hc_33) (kX6_greater hts q2260 rfl rfl ⟨Nat.le_of_ble_eq_true rfl, Nat.le_of_ble_eq_true rfl⟩) rfl hl.1 rfl (lv_room (Nat.le_of_ble_eq_true rfl)) ⟨Nat.le_of_ble_eq_true rfl, Nat.le_of_ble_eq_true rfl⟩ dX6_ask_112 ?_
              refine lv_istore (lv' := [(4, .int r_34), (6, .int (bz y_24)), (2, .int r_11), (3, .int x3_13), (5, .int x5_15)]) hx hb dX6_ask_115 hl (by decide) rfl (fun ls hl => ?_)
              refine lv_iload hx hb dX6_ask_117 (lv_at hl 4 rfl) ?_
              refine lv_istore_n (lv' := [(3, .int x5_15), (4, .int r_34), (6, .int (bz y_24)), (2, .int r_11), (5, .int x5_15)]) hx hb dX6_ask_119 rfl hl (by decide) rfl (fun ls hl => ?_)
              refine lv_iinc (v := (x5_15 + (1 : Int32))) (lv' := [(5, .int (x5_15 + (1 : Int32))), (3, .int x5_15), (4, .int r_34), (6, .int (bz y_24)), (2, .int r_11)]) hx hb dX6_ask_120 hl (k := 4) rfl rfl (by decide) rfl (fun ls hl => ?_)
              refine lv_goto (tgt := 46) hx hb dX6_ask_123 (by decide) ?_
              exact ih x5_15 r_34 (x5_15 + (1 : Int32)) _ _ hP hD hS ls (lv_sub hl [4, 1, 2, 0] rfl) hrun
            have hrun := mif_n c_30 hrun
            refine lv_goto (tgt := 120) hx hb dX6_ask_100 (by decide) ?_
            refine lv_iinc (v := (x5_15 + (1 : Int32))) (lv' := [(5, .int (x5_15 + (1 : Int32))), (6, .int (bz y_24)), (2, .int r_11), (3, .int x3_13), (4, .int x4_14)]) hx hb dX6_ask_120 hl (k := 4) rfl rfl (by decide) rfl (fun ls hl => ?_)
            refine lv_goto (tgt := 46) hx hb dX6_ask_123 (by decide) ?_
            exact ih x3_13 x4_14 (x5_15 + (1 : Int32)) _ _ hP hD hS ls (lv_sub hl [2, 3, 4, 0] rfl) hrun
          refine lv_if_eq (tgt := 80) hx hb dX6_ask_73 (by decide) (fun c_22 => ?_) (fun c_22 => ?_)
          · have hrun := mif_n (bz_z c_22) hrun
            refine lv_iconst (v := (0 : Int32)) hx hb dX6_ask_80 (by decide) ?_
            exact hj_23 false _ _ hP hD hS ls (lv_sub hl [0, 1, 2, 3] rfl) hrun
          have hrun := mif_p (bz_nz c_22) hrun
          refine lv_iconst (v := (1 : Int32)) hx hb dX6_ask_76 (by decide) ?_
          refine lv_goto (tgt := 81) hx hb dX6_ask_77 (by decide) ?_
          exact hj_23 true _ _ hP hD hS ls (lv_sub hl [0, 1, 2, 3] rfl) hrun
      exact hL_12 mFU (-1 : Int32) (2000000000 : Int32) (0 : Int32) _ _ hP hD hS ls (lv_sub hl [3, 2, 1, 0] rfl) hrun
    have hrun := mif_n c_9 hrun
    refine lv_iconst (v := (0 : Int32)) hx hb dX6_ask_28 (by decide) ?_
    cases hrun
    exact retW_i hx hb hr hlocks hP hD hS ⟨rfl, rfl⟩ dX6_ask_29
  refine lv_icmp_ne (tgt := 17) hx hb dX6_ask_10 (by decide) (fun c_4 => ?_) (fun c_4 => ?_)
  · have hrun := mif_n c_4 hrun
    refine lv_iconst (v := (0 : Int32)) hx hb dX6_ask_17 (by decide) ?_
    exact hj_5 false _ _ hP hD hS ls (lv_sub hl [1, 0] rfl) hrun
  have hrun := mif_p c_4 hrun
  refine lv_iconst (v := (1 : Int32)) hx hb dX6_ask_13 (by decide) ?_
  refine lv_goto (tgt := 18) hx hb dX6_ask_14 (by decide) ?_
  exact hj_5 true _ _ hP hD hS ls (lv_sub hl [1, 0] rfl) hrun
