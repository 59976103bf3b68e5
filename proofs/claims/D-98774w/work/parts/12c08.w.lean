/-! walks: X3_blanks, X3_isOver, X3_sign, X3_isFigure, X3_comesUp, X1_fault, X1_end, X5_at, X5_can, X5_by -/
def rX3_blanks : Room := { frames := 1, cells := 0, slots := 0, locals := 21 }
noncomputable def fX3_blanks_L0 (K_3 : Rd → Option (Rd)) : Nat → Rd → Option (Rd)
  | 0, _ => none
  | n + 1, srd_6 =>
    mob (fX3_byteAt srd_6 (rd_at_ srd_6)) fun r_8 =>
    if r_8 = (32 : Int32) then
      mlt ((rd_at_ srd_6) + (1 : Int32)) fun v_10 =>
      mlt (rd_s_at_ srd_6 v_10) fun srd_11 =>
      fX3_blanks_L0 K_3 n srd_11
    else
      K_3 srd_6
noncomputable def fX3_blanks (srd : Rd) : Option (Rd) :=
  mjn (fun (srd_2 : Rd) =>
  mlt (rd_s_begin srd_2 (rd_at_ srd_2)) fun srd_4 =>
  some srd_4) fun K_3 =>
  fX3_blanks_L0 K_3 mFU srd
theorem kX3_blanks {R : Room} {s : State} {args : Array Value} {own : String} {idx mc ms : Nat} {rm : Room} (hts : ∀ w ∈ lw_all, w.before args s = true) (hl : Cond.methodLink own idx yX3_blanks ∈ lw_all) (hrc : rm.cells = mc) (hrs : rm.slots = ms) (hR : rm.frames + 1 ≤ R.frames ∧ 8 + (1 + 11) + rm.locals ≤ R.locals) : CallW R s args own RX3 idx yX3_blanks cX3_blanks 1 none (ws_ yX3_blanks cX3_blanks 1 none) rm mc ms 0 :=
  cwV 0 hts (lw_V hl q772 q773 q109 q774) rfl hrc hrs (by decide +kernel) hR
set_option maxHeartbeats 4000000 in
set_option maxRecDepth 100000 in
theorem mtX3_blanks (l : Launch) (D : va_G) (k : Nat → ClassId) (ard : Nat → Nat) (Z : zZ) (hOK : zOK D zCl (zTys k) Z) (srd : Rd) (ord : Rd) (hrun : fX3_blanks srd = some ord) :
    CtW l yX3_blanks cX3_blanks 1 none rX3_blanks Z D zCl (cR k ard srd) [.ref (ard 0)] (fun r' w' => r' = none ∧ w' = (cR k ard ord)) 0 0 := by
  refine CtW.of (by decide) (Nat.le_of_ble_eq_true rfl) ?_
  intro p e s m args below meth c A hE hA hP hD hS hz ls hl
  obtain ⟨hx, hb, hr, hml, hown, hts, hlocks, hname⟩ := hE
  have hown : s.vm.findClass RX3 = some m.cls := hown
  have hK := hOK.1 _ _ _ hz
  have hN := hOK.2.1 _ _ _ hz
  have hl : lv_has ls 1 [(0, .ref (ard 0))] := hl
  unfold fX3_blanks at hrun
  obtain ⟨K_3, hK_3, hrun⟩ := mjn_s hrun
  have hj_1 : ∀ (srd_2 : Rd), ∀ (H : Heap) (locs : List Loc), va_P D zCl (cR k ard srd_2) H → va_D A (cR k ard srd_2) → va_S A s.heap H locs → ∀ ls : Array Slot, lv_has ls 1 [(0, .ref (ard 0))] → K_3 srd_2 = some ord → W p l e rX3_blanks s m args below meth c H locs 0 0 (MQ below (QWr (fun r' w' => r' = none ∧ w' = (cR k ard ord)) D zCl A) args s 0 0 A) (F0 m 26 ls []) := by
    intro srd_2 H locs hP hD hS ls hl hrun
    rw [hK_3] at hrun
    refine lv_aload_n hx hb dX3_blanks_26 rfl (lv_at hl 0 rfl) ?_
    refine lv_aload_n hx hb dX3_blanks_27 rfl (lv_at hl 0 rfl) ?_
    refine va_get (ci := 3) (v := .int (rd_at_ srd_2)) (C := RX3) (T := TX3) (N := 7) hx hb hts in_X3 hown hK hP 0 rfl rfl 3 (by decide) (hts _ q265) (fun _ h9 => h9) rfl dX3_blanks_28 ?_
    refine va_put (ci := 3) (v := .int (rd_at_ srd_2)) (ty := tyX3 4) (C := RX3) (T := TX3) (N := 7) hx hb hts in_X3 tyX3 tyX3_ok nmX3 hown hK hP hD hS 0 rfl rfl 4 (by decide) (hts _ q266) (fun _ h9 => h9) rfl (tyX3_ok 4 (by decide)) rfl rfl (Nat.le_of_ble_eq_true rfl) dX3_blanks_31 (fun H locs hP hD hS => ?_)
    have hP : va_P D zCl (cR k ard (rd_s_begin srd_2 (rd_at_ srd_2))) H := hP
    have hD : va_D A (cR k ard (rd_s_begin srd_2 (rd_at_ srd_2))) := hD
    obtain ⟨srd_4, esrd_4⟩ : ∃ z : Rd, z = (rd_s_begin srd_2 (rd_at_ srd_2)) := ⟨_, rfl⟩
    rw [← esrd_4] at hP hD
    have hrun := mlt_s hrun srd_4 esrd_4
    cases hrun
    exact retW_v hx hb hr hlocks hP hD hS ⟨rfl, rfl⟩ dX3_blanks_34
  have hL_5 : ∀ n : Nat, ∀ (srd_6 : Rd), ∀ (H : Heap) (locs : List Loc), va_P D zCl (cR k ard srd_6) H → va_D A (cR k ard srd_6) → va_S A s.heap H locs → ∀ ls : Array Slot, lv_has ls 1 [(0, .ref (ard 0))] → fX3_blanks_L0 K_3 n srd_6 = some ord → W p l e rX3_blanks s m args below meth c H locs 0 0 (MQ below (QWr (fun r' w' => r' = none ∧ w' = (cR k ard ord)) D zCl A) args s 0 0 A) (F0 m 0 ls []) := by
    intro n
    induction n with
    | zero =>
      intro srd_6 H locs hP hD hS ls hl hrun
      exact nomatch hrun
    | succ n ih =>
      intro srd_6 H locs hP hD hS ls hl hrun
      rw [fX3_blanks_L0.eq_2] at hrun
      refine lv_aload_n hx hb dX3_blanks_0 rfl (lv_at hl 0 rfl) ?_
      refine lv_aload_n hx hb dX3_blanks_1 rfl (lv_at hl 0 rfl) ?_
      refine va_get (ci := 3) (v := .int (rd_at_ srd_6)) (C := RX3) (T := TX3) (N := 7) hx hb hts in_X3 hown hK hP 0 rfl rfl 3 (by decide) (hts _ q265) (fun _ h9 => h9) rfl dX3_blanks_2 ?_
      obtain ⟨r_8, hc_7, hrun⟩ := mob_s rfl hrun
      refine cRV (As := [.int (rd_at_ srd_6)]) (ci := 3) ⟨hx, hb, hml, hown, hts⟩ hOK hz hS hP (mtX3_byteAt l D k ard Z hOK _ _ _ hc_7) (kX3_byteAt hts q775 rfl rfl ⟨Nat.le_of_ble_eq_true rfl, Nat.le_of_ble_eq_true rfl⟩) 0 rfl rfl rfl hl.1 rfl (lv_room (Nat.le_of_ble_eq_true rfl)) ⟨Nat.le_of_ble_eq_true rfl, Nat.le_of_ble_eq_true rfl⟩ dX3_blanks_5 ?_
      refine lv_bipush (v := (32 : Int32)) hx hb dX3_blanks_8 (by decide) ?_
      refine lv_icmp_ne (tgt := 26) hx hb dX3_blanks_10 (by decide) (fun c_9 => ?_) (fun c_9 => ?_)
      · have hrun := mif_n c_9 hrun
        exact hj_1 srd_6 _ _ hP hD hS ls (lv_sub hl [0] rfl) hrun
      have hrun := mif_p c_9 hrun
      refine lv_aload_n hx hb dX3_blanks_13 rfl (lv_at hl 0 rfl) ?_
      refine lv_dup hx hb dX3_blanks_14 rfl ?_
      refine va_get (ci := 3) (v := .int (rd_at_ srd_6)) (C := RX3) (T := TX3) (N := 7) hx hb hts in_X3 hown hK hP 0 rfl rfl 3 (by decide) (hts _ q265) (fun _ h9 => h9) rfl dX3_blanks_15 ?_
      refine lv_iconst (v := (1 : Int32)) hx hb dX3_blanks_18 (by decide) ?_
      refine lv_iadd hx hb dX3_blanks_19 ?_
      refine lv_topi (fun v_10 ev_10 => ?_)
      have hrun := mlt_s hrun v_10 ev_10
      refine va_put (ci := 3) (v := .int v_10) (ty := tyX3 3) (C := RX3) (T := TX3) (N := 7) hx hb hts in_X3 tyX3 tyX3_ok nmX3 hown hK hP hD hS 0 rfl rfl 3 (by decide) (hts _ q265) (fun _ h9 => h9) rfl (tyX3_ok 3 (by decide)) rfl rfl (Nat.le_of_ble_eq_true rfl) dX3_blanks_20 (fun H locs hP hD hS => ?_)
      have hP : va_P D zCl (cR k ard (rd_s_at_ srd_6 v_10)) H := hP
      have hD : va_D A (cR k ard (rd_s_at_ srd_6 v_10)) := hD
      obtain ⟨srd_11, esrd_11⟩ : ∃ z : Rd, z = (rd_s_at_ srd_6 v_10) := ⟨_, rfl⟩
      rw [← esrd_11] at hP hD
      have hrun := mlt_s hrun srd_11 esrd_11
      refine lv_goto (tgt := 0) hx hb dX3_blanks_23 (by decide) ?_
      exact ih srd_11 _ _ hP hD hS ls (lv_sub hl [0] rfl) hrun
  exact hL_5 mFU srd _ _ hP hD hS ls (lv_sub hl [0] rfl) hrun
def rX3_isOver : Room := { frames := 2, cells := 0, slots := 0, locals := 41 }
noncomputable def fX3_isOver (srd : Rd) : Option (Bool × Rd) :=
  mob (fX3_blanks srd) fun srd_2 =>
  if (rd_at_ srd_2) = (rd_end_ srd_2) then
    some (true, srd_2)
  else
    some (false, srd_2)
theorem kX3_isOver {R : Room} {s : State} {args : Array Value} {own : String} {idx mc ms : Nat} {rm : Room} (hts : ∀ w ∈ lw_all, w.before args s = true) (hl : Cond.methodLink own idx yX3_isOver ∈ lw_all) (hrc : rm.cells = mc) (hrs : rm.slots = ms) (hR : rm.frames + 1 ≤ R.frames ∧ 8 + (1 + 11) + rm.locals ≤ R.locals) : CallW R s args own RX3 idx yX3_isOver cX3_isOver 1 (some .boolean) (ws_ yX3_isOver cX3_isOver 1 (some .boolean)) rm mc ms 0 :=
  cwV 0 hts (lw_V hl q768 q769 q109 q770) rfl hrc hrs (by decide +kernel) hR
set_option maxHeartbeats 4000000 in
set_option maxRecDepth 100000 in
theorem mtX3_isOver (l : Launch) (D : va_G) (k : Nat → ClassId) (ard : Nat → Nat) (Z : zZ) (hOK : zOK D zCl (zTys k) Z) (srd : Rd) (r : Bool) (ord : Rd) (hrun : fX3_isOver srd = some (r, ord)) :
    CtW l yX3_isOver cX3_isOver 1 (some .boolean) rX3_isOver Z D zCl (cR k ard srd) [.ref (ard 0)] (fun r' w' => r' = (some (.int (bz r))) ∧ w' = (cR k ard ord)) 0 0 := by
  refine CtW.of (by decide) (Nat.le_of_ble_eq_true rfl) ?_
  intro p e s m args below meth c A hE hA hP hD hS hz ls hl
  obtain ⟨hx, hb, hr, hml, hown, hts, hlocks, hname⟩ := hE
  have hown : s.vm.findClass RX3 = some m.cls := hown
  have hK := hOK.1 _ _ _ hz
  have hN := hOK.2.1 _ _ _ hz
  have hl : lv_has ls 1 [(0, .ref (ard 0))] := hl
  unfold fX3_isOver at hrun
  refine lv_aload_n hx hb dX3_isOver_0 rfl (lv_at hl 0 rfl) ?_
  obtain ⟨srd_2, hc_1, hrun⟩ := mob_s rfl hrun
  refine cWV0 (As := []) (ci := 3) ⟨hx, hb, hml, hown, hts⟩ hOK hz hS hA hP hD (mtX3_blanks l D k ard Z hOK _ _ hc_1) (kX3_blanks hts q771 rfl rfl ⟨Nat.le_of_ble_eq_true rfl, Nat.le_of_ble_eq_true rfl⟩) 0 rfl rfl rfl hl.1 rfl (lv_room (Nat.le_of_ble_eq_true rfl)) ⟨Nat.le_of_ble_eq_true rfl, Nat.le_of_ble_eq_true rfl⟩ dX3_isOver_1 (fun r_ w_ H locs hq hP hD hS => ?_)
  obtain ⟨rfl, rfl⟩ := hq
  refine lv_aload_n hx hb dX3_isOver_4 rfl (lv_at hl 0 rfl) ?_
  refine va_get (ci := 3) (v := .int (rd_at_ srd_2)) (C := RX3) (T := TX3) (N := 7) hx hb hts in_X3 hown hK hP 0 rfl rfl 3 (by decide) (hts _ q265) (fun _ h9 => h9) rfl dX3_isOver_5 ?_
  refine lv_aload_n hx hb dX3_isOver_8 rfl (lv_at hl 0 rfl) ?_
  refine va_get (ci := 3) (v := .int (rd_end_ srd_2)) (C := RX3) (T := TX3) (N := 7) hx hb hts in_X3 hown hK hP 0 rfl rfl 2 (by decide) (hts _ q263) (fun _ h9 => h9) rfl dX3_isOver_9 ?_
  refine lv_icmp_ne (tgt := 19) hx hb dX3_isOver_12 (by decide) (fun c_3 => ?_) (fun c_3 => ?_)
  · have hrun := mif_n c_3 hrun
    refine lv_iconst (v := (0 : Int32)) hx hb dX3_isOver_19 (by decide) ?_
    cases hrun
    exact retW_z (v := false) hx hb hr hlocks hP hD hS ⟨rfl, rfl⟩ dX3_isOver_20
  have hrun := mif_p c_3 hrun
  refine lv_iconst (v := (1 : Int32)) hx hb dX3_isOver_15 (by decide) ?_
  refine lv_goto (tgt := 20) hx hb dX3_isOver_16 (by decide) ?_
  cases hrun
  exact retW_z (v := true) hx hb hr hlocks hP hD hS ⟨rfl, rfl⟩ dX3_isOver_20
def rX3_sign : Room := { frames := 2, cells := 0, slots := 0, locals := 41 }
noncomputable def fX3_sign (srd : Rd) (p1 : Int32) : Option (Bool × Rd) :=
  mob (fX3_blanks srd) fun srd_2 =>
  mob (fX3_byteAt srd_2 (rd_at_ srd_2)) fun r_4 =>
  if r_4 = p1 then
    mlt ((rd_at_ srd_2) + (1 : Int32)) fun v_6 =>
    mlt (rd_s_at_ srd_2 v_6) fun srd_7 =>
    some (true, srd_7)
  else
    some (false, srd_2)
theorem kX3_sign {R : Room} {s : State} {args : Array Value} {own : String} {idx mc ms : Nat} {rm : Room} (hts : ∀ w ∈ lw_all, w.before args s = true) (hl : Cond.methodLink own idx yX3_sign ∈ lw_all) (hrc : rm.cells = mc) (hrs : rm.slots = ms) (hR : rm.frames + 1 ≤ R.frames ∧ 8 + (2 + 11) + rm.locals ≤ R.locals) : CallW R s args own RX3 idx yX3_sign cX3_sign 2 (some .boolean) (ws_ yX3_sign cX3_sign 2 (some .boolean)) rm mc ms 1 :=
  cwV 1 hts (lw_V hl q1263 q1264 q109 q1265) rfl hrc hrs (by decide +kernel) hR
set_option maxHeartbeats 4000000 in
set_option maxRecDepth 100000 in
theorem mtX3_sign (l : Launch) (D : va_G) (k : Nat → ClassId) (ard : Nat → Nat) (Z : zZ) (hOK : zOK D zCl (zTys k) Z) (srd : Rd) (p1 : Int32) (r : Bool) (ord : Rd) (hrun : fX3_sign srd p1 = some (r, ord)) :
    CtW l yX3_sign cX3_sign 2 (some .boolean) rX3_sign Z D zCl (cR k ard srd) [.ref (ard 0), .int p1] (fun r' w' => r' = (some (.int (bz r))) ∧ w' = (cR k ard ord)) 0 0 := by
  refine CtW.of (by decide) (Nat.le_of_ble_eq_true rfl) ?_
  intro p e s m args below meth c A hE hA hP hD hS hz ls hl
  obtain ⟨hx, hb, hr, hml, hown, hts, hlocks, hname⟩ := hE
  have hown : s.vm.findClass RX3 = some m.cls := hown
  have hK := hOK.1 _ _ _ hz
  have hN := hOK.2.1 _ _ _ hz
  have hl : lv_has ls 2 [(0, .ref (ard 0)), (1, .int p1)] := hl
  unfold fX3_sign at hrun
  refine lv_aload_n hx hb dX3_sign_0 rfl (lv_at hl 0 rfl) ?_
  obtain ⟨srd_2, hc_1, hrun⟩ := mob_s rfl hrun
  refine cWV0 (As := []) (ci := 3) ⟨hx, hb, hml, hown, hts⟩ hOK hz hS hA hP hD (mtX3_blanks l D k ard Z hOK _ _ hc_1) (kX3_blanks hts q771 rfl rfl ⟨Nat.le_of_ble_eq_true rfl, Nat.le_of_ble_eq_true rfl⟩) 0 rfl rfl rfl hl.1 rfl (lv_room (Nat.le_of_ble_eq_true rfl)) ⟨Nat.le_of_ble_eq_true rfl, Nat.le_of_ble_eq_true rfl⟩ dX3_sign_1 (fun r_ w_ H locs hq hP hD hS => ?_)
  obtain ⟨rfl, rfl⟩ := hq
  refine lv_aload_n hx hb dX3_sign_4 rfl (lv_at hl 0 rfl) ?_
  refine lv_aload_n hx hb dX3_sign_5 rfl (lv_at hl 0 rfl) ?_
  refine va_get (ci := 3) (v := .int (rd_at_ srd_2)) (C := RX3) (T := TX3) (N := 7) hx hb hts in_X3 hown hK hP 0 rfl rfl 3 (by decide) (hts _ q265) (fun _ h9 => h9) rfl dX3_sign_6 ?_
  obtain ⟨r_4, hc_3, hrun⟩ := mob_s rfl hrun
  refine cRV (As := [.int (rd_at_ srd_2)]) (ci := 3) ⟨hx, hb, hml, hown, hts⟩ hOK hz hS hP (mtX3_byteAt l D k ard Z hOK _ _ _ hc_3) (kX3_byteAt hts q775 rfl rfl ⟨Nat.le_of_ble_eq_true rfl, Nat.le_of_ble_eq_true rfl⟩) 0 rfl rfl rfl hl.1 rfl (lv_room (Nat.le_of_ble_eq_true rfl)) ⟨Nat.le_of_ble_eq_true rfl, Nat.le_of_ble_eq_true rfl⟩ dX3_sign_9 ?_
  refine lv_iload_n hx hb dX3_sign_12 rfl (lv_at hl 1 rfl) ?_
  refine lv_icmp_eq (tgt := 18) hx hb dX3_sign_13 (by decide) (fun c_5 => ?_) (fun c_5 => ?_)
  · have hrun := mif_p c_5 hrun
    refine lv_aload_n hx hb dX3_sign_18 rfl (lv_at hl 0 rfl) ?_
    refine lv_dup hx hb dX3_sign_19 rfl ?_
    refine va_get (ci := 3) (v := .int (rd_at_ srd_2)) (C := RX3) (T := TX3) (N := 7) hx hb hts in_X3 hown hK hP 0 rfl rfl 3 (by decide) (hts _ q265) (fun _ h9 => h9) rfl dX3_sign_20 ?_
    refine lv_iconst (v := (1 : Int32)) hx hb dX3_sign_23 (by decide) ?_
    refine lv_iadd hx hb dX3_sign_24 ?_
    refine lv_topi (fun v_6 ev_6 => ?_)
    have hrun := mlt_s hrun v_6 ev_6
    refine va_put (ci := 3) (v := .int v_6) (ty := tyX3 3) (C := RX3) (T := TX3) (N := 7) hx hb hts in_X3 tyX3 tyX3_ok nmX3 hown hK hP hD hS 0 rfl rfl 3 (by decide) (hts _ q265) (fun _ h9 => h9) rfl (tyX3_ok 3 (by decide)) rfl rfl (Nat.le_of_ble_eq_true rfl) dX3_sign_25 (fun H locs hP hD hS => ?_)
    have hP : va_P D zCl (cR k ard (rd_s_at_ srd_2 v_6)) H := hP
    have hD : va_D A (cR k ard (rd_s_at_ srd_2 v_6)) := hD
    obtain ⟨srd_7, esrd_7⟩ : ∃ z : Rd, z = (rd_s_at_ srd_2 v_6) := ⟨_, rfl⟩
    rw [← esrd_7] at hP hD
    have hrun := mlt_s hrun srd_7 esrd_7
    refine lv_iconst (v := (1 : Int32)) hx hb dX3_sign_28 (by decide) ?_
    cases hrun
    exact retW_z (v := true) hx hb hr hlocks hP hD hS ⟨rfl, rfl⟩ dX3_sign_29
  have hrun := mif_n c_5 hrun
  refine lv_iconst (v := (0 : Int32)) hx hb dX3_sign_16 (by decide) ?_
  cases hrun
  exact retW_z (v := false) hx hb hr hlocks hP hD hS ⟨rfl, rfl⟩ dX3_sign_17
def rX3_isFigure : Room := { frames := 2, cells := 0, slots := 0, locals := 41 }
noncomputable def fX3_isFigure (srd : Rd) : Option (Bool × Rd) :=
  mob (fX3_blanks srd) fun srd_2 =>
  mob (fX3_byteAt srd_2 (rd_at_ srd_2)) fun r_4 =>
  mob (fX1_in r_4 (48 : Int32) (57 : Int32)) fun r_6 =>
  some (r_6, srd_2)
theorem kX3_isFigure {R : Room} {s : State} {args : Array Value} {own : String} {idx mc ms : Nat} {rm : Room} (hts : ∀ w ∈ lw_all, w.before args s = true) (hl : Cond.methodLink own idx yX3_isFigure ∈ lw_all) (hrc : rm.cells = mc) (hrs : rm.slots = ms) (hR : rm.frames + 1 ≤ R.frames ∧ 8 + (1 + 11) + rm.locals ≤ R.locals) : CallW R s args own RX3 idx yX3_isFigure cX3_isFigure 1 (some .boolean) (ws_ yX3_isFigure cX3_isFigure 1 (some .boolean)) rm mc ms 0 :=
  cwV 0 hts (lw_V hl q1408 q1409 q109 q1410) rfl hrc hrs (by decide +kernel) hR
set_option maxHeartbeats 4000000 in
set_option maxRecDepth 100000 in
theorem mtX3_isFigure (l : Launch) (D : va_G) (k : Nat → ClassId) (ard : Nat → Nat) (Z : zZ) (hOK : zOK D zCl (zTys k) Z) (srd : Rd) (r : Bool) (ord : Rd) (hrun : fX3_isFigure srd = some (r, ord)) :
    CtW l yX3_isFigure cX3_isFigure 1 (some .boolean) rX3_isFigure Z D zCl (cR k ard srd) [.ref (ard 0)] (fun r' w' => r' = (some (.int (bz r))) ∧ w' = (cR k ard ord)) 0 0 := by
  refine CtW.of (by decide) (Nat.le_of_ble_eq_true rfl) ?_
  intro p e s m args below meth c A hE hA hP hD hS hz ls hl
  obtain ⟨hx, hb, hr, hml, hown, hts, hlocks, hname⟩ := hE
  have hown : s.vm.findClass RX3 = some m.cls := hown
  have hK := hOK.1 _ _ _ hz
  have hN := hOK.2.1 _ _ _ hz
  have hl : lv_has ls 1 [(0, .ref (ard 0))] := hl
  unfold fX3_isFigure at hrun
  refine lv_aload_n hx hb dX3_isFigure_0 rfl (lv_at hl 0 rfl) ?_
  obtain ⟨srd_2, hc_1, hrun⟩ := mob_s rfl hrun
  refine cWV0 (As := []) (ci := 3) ⟨hx, hb, hml, hown, hts⟩ hOK hz hS hA hP hD (mtX3_blanks l D k ard Z hOK _ _ hc_1) (kX3_blanks hts q771 rfl rfl ⟨Nat.le_of_ble_eq_true rfl, Nat.le_of_ble_eq_true rfl⟩) 0 rfl rfl rfl hl.1 rfl (lv_room (Nat.le_of_ble_eq_true rfl)) ⟨Nat.le_of_ble_eq_true rfl, Nat.le_of_ble_eq_true rfl⟩ dX3_isFigure_1 (fun r_ w_ H locs hq hP hD hS => ?_)
  obtain ⟨rfl, rfl⟩ := hq
  refine lv_aload_n hx hb dX3_isFigure_4 rfl (lv_at hl 0 rfl) ?_
  refine lv_aload_n hx hb dX3_isFigure_5 rfl (lv_at hl 0 rfl) ?_
  refine va_get (ci := 3) (v := .int (rd_at_ srd_2)) (C := RX3) (T := TX3) (N := 7) hx hb hts in_X3 hown hK hP 0 rfl rfl 3 (by decide) (hts _ q265) (fun _ h9 => h9) rfl dX3_isFigure_6 ?_
  obtain ⟨r_4, hc_3, hrun⟩ := mob_s rfl hrun
  refine cRV (As := [.int (rd_at_ srd_2)]) (ci := 3) ⟨hx, hb, hml, hown, hts⟩ hOK hz hS hP (mtX3_byteAt l D k ard Z hOK _ _ _ hc_3) (kX3_byteAt hts q775 rfl rfl ⟨Nat.le_of_ble_eq_true rfl, Nat.le_of_ble_eq_true rfl⟩) 0 rfl rfl rfl hl.1 rfl (lv_room (Nat.le_of_ble_eq_true rfl)) ⟨Nat.le_of_ble_eq_true rfl, Nat.le_of_ble_eq_true rfl⟩ dX3_isFigure_9 ?_
  refine lv_bipush (v := (48 : Int32)) hx hb dX3_isFigure_12 (by decide) ?_
  refine lv_bipush (v := (57 : Int32)) hx hb dX3_isFigure_14 (by decide) ?_
  obtain ⟨r_6, hc_5, hrun⟩ := mob_s rfl hrun
  refine cRSN (ws := []) (As := [.int r_4, .int (48 : Int32), .int (57 : Int32)]) ⟨hx, hb, hml, hown, hts⟩ hOK hz hS zP0 (mtX1_in l D Z hOK _ _ _ _ hc_5) (kX1_inn hN hts (hN _ (zN_of q787 rfl)) rfl rfl ⟨Nat.le_of_ble_eq_true rfl, Nat.le_of_ble_eq_true rfl⟩) rfl hl.1 rfl (lv_room (Nat.le_of_ble_eq_true rfl)) ⟨Nat.le_of_ble_eq_true rfl, Nat.le_of_ble_eq_true rfl⟩ dX3_isFigure_16 ?_
  cases hrun
  exact retW_z hx hb hr hlocks hP hD hS ⟨rfl, rfl⟩ dX3_isFigure_19
def rX3_comesUp : Room := { frames := 0, cells := 0, slots := 0, locals := 0 }
noncomputable def fX3_comesUp (srd : Rd) : Option (Rd) :=
  mlt ((rd_deep srd) - (1 : Int32)) fun v_1 =>
  mlt (rd_s_deep srd v_1) fun srd_2 =>
  some srd_2
theorem kX3_comesUp {R : Room} {s : State} {args : Array Value} {own : String} {idx mc ms : Nat} {rm : Room} (hts : ∀ w ∈ lw_all, w.before args s = true) (hl : Cond.methodLink own idx yX3_comesUp ∈ lw_all) (hrc : rm.cells = mc) (hrs : rm.slots = ms) (hR : rm.frames + 1 ≤ R.frames ∧ 8 + (1 + 11) + rm.locals ≤ R.locals) : CallW R s args own RX3 idx yX3_comesUp cX3_comesUp 1 none (ws_ yX3_comesUp cX3_comesUp 1 none) rm mc ms 0 :=
  cwV 0 hts (lw_V hl q1361 q1362 q109 q1363) rfl hrc hrs (by decide +kernel) hR
set_option maxHeartbeats 4000000 in
set_option maxRecDepth 100000 in
theorem mtX3_comesUp (l : Launch) (D : va_G) (k : Nat → ClassId) (ard : Nat → Nat) (Z : zZ) (hOK : zOK D zCl (zTys k) Z) (srd : Rd) (ord : Rd) (hrun : fX3_comesUp srd = some ord) :
    CtW l yX3_comesUp cX3_comesUp 1 none rX3_comesUp Z D zCl (cR k ard srd) [.ref (ard 0)] (fun r' w' => r' = none ∧ w' = (cR k ard ord)) 0 0 := by
  refine CtW.of (by decide) (Nat.le_of_ble_eq_true rfl) ?_
  intro p e s m args below meth c A hE hA hP hD hS hz ls hl
  obtain ⟨hx, hb, hr, hml, hown, hts, hlocks, hname⟩ := hE
  have hown : s.vm.findClass RX3 = some m.cls := hown
  have hK := hOK.1 _ _ _ hz
  have hN := hOK.2.1 _ _ _ hz
  have hl : lv_has ls 1 [(0, .ref (ard 0))] := hl
  unfold fX3_comesUp at hrun
  refine lv_aload_n hx hb dX3_comesUp_0 rfl (lv_at hl 0 rfl) ?_
  refine lv_dup hx hb dX3_comesUp_1 rfl ?_
  refine va_get (ci := 3) (v := .int (rd_deep srd)) (C := RX3) (T := TX3) (N := 7) hx hb hts in_X3 hown hK hP 0 rfl rfl 6 (by decide) (hts _ q270) (fun _ h9 => h9) rfl dX3_comesUp_2 ?_
  refine lv_iconst (v := (1 : Int32)) hx hb dX3_comesUp_5 (by decide) ?_
  refine lv_isub hx hb dX3_comesUp_6 ?_
  refine lv_topi (fun v_1 ev_1 => ?_)
  have hrun := mlt_s hrun v_1 ev_1
  refine va_put (ci := 3) (v := .int v_1) (ty := tyX3 6) (C := RX3) (T := TX3) (N := 7) hx hb hts in_X3 tyX3 tyX3_ok nmX3 hown hK hP hD hS 0 rfl rfl 6 (by decide) (hts _ q270) (fun _ h9 => h9) rfl (tyX3_ok 6 (by decide)) rfl rfl (Nat.le_of_ble_eq_true rfl) dX3_comesUp_7 (fun H locs hP hD hS => ?_)
  have hP : va_P D zCl (cR k ard (rd_s_deep srd v_1)) H := hP
  have hD : va_D A (cR k ard (rd_s_deep srd v_1)) := hD
  obtain ⟨srd_2, esrd_2⟩ : ∃ z : Rd, z = (rd_s_deep srd v_1) := ⟨_, rfl⟩
  rw [← esrd_2] at hP hD
  have hrun := mlt_s hrun srd_2 esrd_2
  cases hrun
  exact retW_v hx hb hr hlocks hP hD hS ⟨rfl, rfl⟩ dX3_comesUp_10
def rX1_fault : Room := { frames := 0, cells := 0, slots := 0, locals := 0 }
noncomputable def fX1_fault (sh : Kp) (srd : Rd) : Option (Int32) :=
  some (rd_fault srd)
theorem kX1_fault {R : Room} {s : State} {args : Array Value} {own : String} {idx mc ms : Nat} {rm : Room} (hts : ∀ w ∈ lw_all, w.before args s = true) (hl : Cond.methodLink own idx yX1_fault ∈ lw_all) (hrc : rm.cells = mc) (hrs : rm.slots = ms) (hR : rm.frames + 1 ≤ R.frames ∧ 8 + (1 + 11) + rm.locals ≤ R.locals) : CallW R s args own RX1 idx yX1_fault cX1_fault 1 (some .int) (ws_ yX1_fault cX1_fault 1 (some .int)) rm mc ms 0 :=
  cwV 0 hts (lw_V hl q419 q420 q107 q421) rfl hrc hrs (by decide +kernel) hR
set_option maxHeartbeats 4000000 in
set_option maxRecDepth 100000 in
theorem mtX1_fault (l : Launch) (D : va_G) (k : Nat → ClassId) (ah : Nat → Nat) (aw : Nat → Nat) (adr : Nat → Nat) (aim : Nat → Nat) (ard : Nat → Nat) (asc : Nat → Nat) (ath : Nat → Nat) (awl : Nat → Nat) (alo : Nat → Nat) (atr : Nat → Nat) (Z : zZ) (hOK : zOK D zCl (zTys k) Z) (sh : Kp) (srd : Rd) (r : Int32) (hrun : fX1_fault sh srd = some r) :
    CtR l yX1_fault cX1_fault 1 (some .int) rX1_fault Z D zCl ((cH k ah aw adr aim ard asc ath awl alo atr sh) ++ (cR k ard srd)) [.ref (ah 0)] (some (.int r)) := by
  refine CtR.of (by decide) (Nat.le_of_ble_eq_true rfl) ?_
  intro p e s m args below meth c hE hP hz ls hl
  obtain ⟨hx, hb, hr, hml, hown, hts, hlocks, hname⟩ := hE
  have hown : s.vm.findClass RX1 = some m.cls := hown
  have hK := hOK.1 _ _ _ hz
  have hN := hOK.2.1 _ _ _ hz
  have hl : lv_has ls 1 [(0, .ref (ah 0))] := hl
  unfold fX1_fault at hrun
  refine lv_aload_n hx hb dX1_fault_0 rfl (lv_at hl 0 rfl) ?_
  refine va_get (ci := 1) (v := .ref (ard 0)) (C := RX1) (T := TX1) (N := 10) hx hb hts in_X1 hown hK hP 0 rfl rfl 4 (by decide) (hts _ q375) (fun _ h9 => h9) rfl dX1_fault_1 ?_
  refine va_getN (ci := 3) (v := .int (rd_fault srd)) (C := RX3) (T := TX3) (N := 7) hx hb hts in_X3 hown hK hP 1 rfl rfl 5 (by decide) (va_Nw.use rfl (hN _ (zN_of q269 rfl))) (fun _ h9 => h9) rfl dX1_fault_4 ?_
  cases hrun
  exact retR_i hx hb hr hlocks rfl dX1_fault_7
def rX1_end : Room := { frames := 1, cells := 0, slots := 0, locals := 21 }
noncomputable def fX1_end (sh : Kp) (srd : Rd) (p1 : Int32) : Option (Bool × Rd) :=
  mo2 (fX3_cut srd p1) fun r_3 srd_2 =>
  some (r_3, srd_2)
theorem kX1_end {R : Room} {s : State} {args : Array Value} {own : String} {idx mc ms : Nat} {rm : Room} (hts : ∀ w ∈ lw_all, w.before args s = true) (hl : Cond.methodLink own idx yX1_end ∈ lw_all) (hrc : rm.cells = mc) (hrs : rm.slots = ms) (hR : rm.frames + 1 ≤ R.frames ∧ 8 + (2 + 11) + rm.locals ≤ R.locals) : CallW R s args own RX1 idx yX1_end cX1_end 2 (some .boolean) (ws_ yX1_end cX1_end 2 (some .boolean)) rm mc ms 1 :=
  cwV 1 hts (lw_V hl q411 q412 q107 q413) rfl hrc hrs (by decide +kernel) hR
set_option maxHeartbeats 4000000 in
set_option maxRecDepth 100000 in
theorem mtX1_end (l : Launch) (D : va_G) (k : Nat → ClassId) (ah : Nat → Nat) (aw : Nat → Nat) (adr : Nat → Nat) (aim : Nat → Nat) (ard : Nat → Nat) (asc : Nat → Nat) (ath : Nat → Nat) (awl : Nat → Nat) (alo : Nat → Nat) (atr : Nat → Nat) (Z : zZ) (hOK : zOK D zCl (zTys k) Z) (sh : Kp) (srd : Rd) (p1 : Int32) (r : Bool) (ord : Rd) (hrun : fX1_end sh srd p1 = some (r, ord)) :
    CtW l yX1_end cX1_end 2 (some .boolean) rX1_end Z D zCl ((cH k ah aw adr aim ard asc ath awl alo atr sh) ++ (cR k ard srd)) [.ref (ah 0), .int p1] (fun r' w' => r' = (some (.int (bz r))) ∧ w' = ((cH k ah aw adr aim ard asc ath awl alo atr sh) ++ (cR k ard ord))) 0 0 := by
  refine CtW.of (by decide) (Nat.le_of_ble_eq_true rfl) ?_
  intro p e s m args below meth c A hE hA hP hD hS hz ls hl
  obtain ⟨hx, hb, hr, hml, hown, hts, hlocks, hname⟩ := hE
  have hown : s.vm.findClass RX1 = some m.cls := hown
  have hK := hOK.1 _ _ _ hz
  have hN := hOK.2.1 _ _ _ hz
  have hl : lv_has ls 2 [(0, .ref (ah 0)), (1, .int p1)] := hl
  unfold fX1_end at hrun
  refine lv_aload_n hx hb dX1_end_0 rfl (lv_at hl 0 rfl) ?_
  refine va_get (ci := 1) (v := .ref (ard 0)) (C := RX1) (T := TX1) (N := 10) hx hb hts in_X1 hown hK hP 0 rfl rfl 4 (by decide) (hts _ q375) (fun _ h9 => h9) rfl dX1_end_1 ?_
  refine lv_iload_n hx hb dX1_end_4 rfl (lv_at hl 1 rfl) ?_
  obtain ⟨r_3, srd_2, hc_1, hrun⟩ := mo2_s rfl hrun
  have hP := hP.sub (ws' := ((cR k ard srd) ++ (cH k ah aw adr aim ard asc ath awl alo atr sh))) [1, 2, 0] rfl
  have hD := hD.sub (ws' := ((cR k ard srd) ++ (cH k ah aw adr aim ard asc ath awl alo atr sh))) [1, 2, 0] (by decide) rfl
  refine cWV [] (cR k ard srd) (cH k ah aw adr aim ard asc ath awl alo atr sh) (As := [.int p1]) (ci := 3) ⟨hx, hb, hml, hown, hts⟩ hOK hz hS hA hP hD (mtX3_cut l D k ard Z hOK _ _ _ _ hc_1) (kX3_cut hts q414 rfl rfl ⟨Nat.le_of_ble_eq_true rfl, Nat.le_of_ble_eq_true rfl⟩) 0 rfl rfl rfl hl.1 rfl (lv_room (Nat.le_of_ble_eq_true rfl)) ⟨Nat.le_of_ble_eq_true rfl, Nat.le_of_ble_eq_true rfl⟩ dX1_end_5 (fun r_ w_ H locs hq hP hD hS => ?_)
  obtain ⟨rfl, rfl⟩ := hq
  have hP := hP.sub (ws' := ((cH k ah aw adr aim ard asc ath awl alo atr sh) ++ (cR k ard srd_2))) [2, 0, 1] rfl
  have hD := hD.sub (ws' := ((cH k ah aw adr aim ard asc ath awl alo atr sh) ++ (cR k ard srd_2))) [2, 0, 1] (by decide) rfl
  cases hrun
  exact retW_z hx hb hr hlocks hP hD hS ⟨rfl, rfl⟩ dX1_end_8
def rX5_at : Room := { frames := 0, cells := 0, slots := 0, locals := 0 }
noncomputable def fX5_at (slo : Lo) (p1 : Int32) (p2 : Int32) : Option (Int32) :=
  some ((p1 <<< ((8 : Int32) &&& (31 : Int32))) + p2)
theorem kX5_at {R : Room} {s : State} {args : Array Value} {own : String} {idx mc ms : Nat} {rm : Room} (hts : ∀ w ∈ lw_all, w.before args s = true) (hl : Cond.methodLink own idx yX5_at ∈ lw_all) (hrc : rm.cells = mc) (hrs : rm.slots = ms) (hR : rm.frames + 1 ≤ R.frames ∧ 8 + (3 + 11) + rm.locals ≤ R.locals) : CallW R s args own RX5 idx yX5_at cX5_at 3 (some .int) (ws_ yX5_at cX5_at 3 (some .int)) rm mc ms 2 :=
  cwV 2 hts (lw_V hl q656 qs7 q114 q657) rfl hrc hrs (by decide +kernel) hR
set_option maxHeartbeats 4000000 in
set_option maxRecDepth 100000 in
theorem mtX5_at (l : Launch) (D : va_G) (k : Nat → ClassId) (ah : Nat → Nat) (alo : Nat → Nat) (Z : zZ) (hOK : zOK D zCl (zTys k) Z) (slo : Lo) (p1 : Int32) (p2 : Int32) (r : Int32) (hrun : fX5_at slo p1 p2 = some r) :
    CtR l yX5_at cX5_at 3 (some .int) rX5_at Z D zCl (cL k alo (ah 0) slo) [.ref (alo 0), .int p1, .int p2] (some (.int r)) := by
  refine CtR.of (by decide) (Nat.le_of_ble_eq_true rfl) ?_
  intro p e s m args below meth c hE hP hz ls hl
  obtain ⟨hx, hb, hr, hml, hown, hts, hlocks, hname⟩ := hE
  have hown : s.vm.findClass RX5 = some m.cls := hown
  have hK := hOK.1 _ _ _ hz
  have hN := hOK.2.1 _ _ _ hz
  have hl : lv_has ls 3 [(0, .ref (alo 0)), (1, .int p1), (2, .int p2)] := hl
  unfold fX5_at at hrun
  refine lv_iload_n hx hb dX5_at_0 rfl (lv_at hl 1 rfl) ?_
  refine lv_bipush (v := (8 : Int32)) hx hb dX5_at_1 (by decide) ?_
  refine lv_ishl hx hb dX5_at_3 ?_
  refine lv_iload_n hx hb dX5_at_4 rfl (lv_at hl 2 rfl) ?_
  refine lv_iadd hx hb dX5_at_5 ?_
  cases hrun
  exact retR_i hx hb hr hlocks rfl dX5_at_6
def rX5_can : Room := { frames := 1, cells := 0, slots := 0, locals := 22 }
noncomputable def fX5_can (slo : Lo) (sh : Kp) (sw : Wd) (p1 : Int32) (p2 : Int32) (p3 : Int32) : Option (Bool) :=
  mob (fX1_has p2 p3) fun r_2 =>
  if r_2 = true then
    some false
  else
    mck p1 8 <|
    mob (fX2_spies sw p3 ((wd_key sw) (Int32.toNatClampNeg p1))) fun r_6 =>
    mob (fX1_has r_6 (wd_bath sw)) fun r_8 =>
    if r_8 = true then
      some false
    else
      some true
theorem kX5_can {R : Room} {s : State} {args : Array Value} {own : String} {idx mc ms : Nat} {rm : Room} (hts : ∀ w ∈ lw_all, w.before args s = true) (hl : Cond.methodLink own idx yX5_can ∈ lw_all) (hrc : rm.cells = mc) (hrs : rm.slots = ms) (hR : rm.frames + 1 ≤ R.frames ∧ 8 + (4 + 11) + rm.locals ≤ R.locals) : CallW R s args own RX5 idx yX5_can cX5_can 4 (some .boolean) (ws_ yX5_can cX5_can 4 (some .boolean)) rm mc ms 3 :=
  cwV 3 hts (lw_V hl q665 qs9 q114 q666) rfl hrc hrs (by decide +kernel) hR
set_option maxHeartbeats 4000000 in
set_option maxRecDepth 100000 in
theorem mtX5_can (l : Launch) (D : va_G) (k : Nat → ClassId) (ah : Nat → Nat) (alo : Nat → Nat) (aw : Nat → Nat) (adr : Nat → Nat) (aim : Nat → Nat) (ard : Nat → Nat) (asc : Nat → Nat) (ath : Nat → Nat) (awl : Nat → Nat) (atr : Nat → Nat) (Z : zZ) (hOK : zOK D zCl (zTys k) Z) (slo : Lo) (sh : Kp) (sw : Wd) (p1 : Int32) (p2 : Int32) (p3 : Int32) (r : Bool) (hrun : fX5_can slo sh sw p1 p2 p3 = some r) :
    CtR l yX5_can cX5_can 4 (some .boolean) rX5_can Z D zCl ((cL k alo (ah 0) slo) ++ ((cH k ah aw adr aim ard asc ath awl alo atr sh) ++ (cW k aw sw))) [.ref (alo 0), .int p1, .int p2, .int p3] (some (.int (bz r))) := by
  refine CtR.of (by decide) (Nat.le_of_ble_eq_true rfl) ?_
  intro p e s m args below meth c hE hP hz ls hl
  obtain ⟨hx, hb, hr, hml, hown, hts, hlocks, hname⟩ := hE
  have hown : s.vm.findClass RX5 = some m.cls := hown
  have hK := hOK.1 _ _ _ hz
  have hN := hOK.2.1 _ _ _ hz
  have hl : lv_has ls 4 [(0, .ref (alo 0)), (1, .int p1), (2, .int p2), (3, .int p3)] := hl
  unfold fX5_can at hrun
  refine lv_iload_n hx hb dX5_can_0 rfl (lv_at hl 2 rfl) ?_
  refine lv_iload_n hx hb dX5_can_1 rfl (lv_at hl 3 rfl) ?_
  obtain ⟨r_2, hc_1, hrun⟩ := mob_s rfl hrun
  refine cRSN (ws := []) (As := [.int p2, .int p3]) ⟨hx, hb, hml, hown, hts⟩ hOK hz va_S.rf zP0 (mtX1_has l D Z hOK _ _ _ hc_1) (kX1_hasn hN hts (hN _ (zN_of q667 rfl)) rfl rfl ⟨Nat.le_of_ble_eq_true rfl, Nat.le_of_ble_eq_true rfl⟩) rfl hl.1 rfl (lv_room (Nat.le_of_ble_eq_true rfl)) ⟨Nat.le_of_ble_eq_true rfl, Nat.le_of_ble_eq_true rfl⟩ dX5_can_2 ?_
  refine lv_if_ne (tgt := 51) hx hb dX5_can_5 (by decide) (fun c_3 => ?_) (fun c_3 => ?_)
  · have hrun := mif_p (bz_nz c_3) hrun
    refine lv_iconst (v := (0 : Int32)) hx hb dX5_can_51 (by decide) ?_
    cases hrun
    exact retR_z (v := false) hx hb hr hlocks rfl dX5_can_52
  have hrun := mif_n (bz_z c_3) hrun
  refine lv_aload_n hx hb dX5_can_8 rfl (lv_at hl 0 rfl) ?_
  refine va_get (ci := 5) (v := .ref (ah 0)) (C := RX5) (T := TX5) (N := 2) hx hb hts in_X5 hown hK hP 0 rfl rfl 1 (by decide) (hts _ q364) (fun _ h9 => h9) rfl dX5_can_9 ?_
  refine va_getN (ci := 1) (v := .ref (aw 0)) (C := RX1) (T := TX1) (N := 10) hx hb hts in_X1 hown hK hP 2 rfl rfl 0 (by decide) (va_Nw.use rfl (hN _ (zN_of q371 rfl))) (fun _ h9 => h9) rfl dX5_can_12 ?_
  refine lv_iload_n hx hb dX5_can_15 rfl (lv_at hl 3 rfl) ?_
  refine lv_aload_n hx hb dX5_can_16 rfl (lv_at hl 0 rfl) ?_
  refine va_get (ci := 5) (v := .ref (ah 0)) (C := RX5) (T := TX5) (N := 2) hx hb hts in_X5 hown hK hP 0 rfl rfl 1 (by decide) (hts _ q364) (fun _ h9 => h9) rfl dX5_can_17 ?_
  refine va_getN (ci := 1) (v := .ref (aw 0)) (C := RX1) (T := TX1) (N := 10) hx hb hts in_X1 hown hK hP 2 rfl rfl 0 (by decide) (va_Nw.use rfl (hN _ (zN_of q371 rfl))) (fun _ h9 => h9) rfl dX5_can_20 ?_
  refine va_getN (ci := 2) (v := .ref (aw 5)) (C := RX2) (T := TX2) (N := 21) hx hb hts in_X2 hown hK hP 3 rfl rfl 16 (by decide) (va_Nw.use rfl (hN _ (zN_of q198 rfl))) (fun _ h9 => h9) rfl dX5_can_23 ?_
  refine lv_iload_n hx hb dX5_can_26 rfl (lv_at hl 1 rfl) ?_
  obtain ⟨hb_4, hrun⟩ := mck_s rfl hrun
  refine va_zald hx hb hK hP 8 1 rfl rfl hb_4 dX5_can_27 ?_
  obtain ⟨r_6, hc_5, hrun⟩ := mob_s rfl hrun
  refine cRV (As := [.int p3, .int (bz ((wd_key sw) (Int32.toNatClampNeg p1)))]) (ci := 2) ⟨hx, hb, hml, hown, hts⟩ hOK hz va_S.rf (hP.sub (ws' := (cW k aw sw)) [3, 4, 5, 6, 7, 8, 9, 10, 11] rfl) (mtX2_spies l D k aw Z hOK _ _ _ _ hc_5) (kX2_spies hts q668 rfl rfl ⟨Nat.le_of_ble_eq_true rfl, Nat.le_of_ble_eq_true rfl⟩) 0 rfl rfl rfl hl.1 rfl (lv_room (Nat.le_of_ble_eq_true rfl)) ⟨Nat.le_of_ble_eq_true rfl, Nat.le_of_ble_eq_true rfl⟩ dX5_can_28 ?_
  refine lv_aload_n hx hb dX5_can_31 rfl (lv_at hl 0 rfl) ?_
  refine va_get (ci := 5) (v := .ref (ah 0)) (C := RX5) (T := TX5) (N := 2) hx hb hts in_X5 hown hK hP 0 rfl rfl 1 (by decide) (hts _ q364) (fun _ h9 => h9) rfl dX5_can_32 ?_
  refine va_getN (ci := 1) (v := .ref (aw 0)) (C := RX1) (T := TX1) (N := 10) hx hb hts in_X1 hown hK hP 2 rfl rfl 0 (by decide) (va_Nw.use rfl (hN _ (zN_of q371 rfl))) (fun _ h9 => h9) rfl dX5_can_35 ?_
  refine va_getN (ci := 2) (v := .int (wd_bath sw)) (C := RX2) (T := TX2) (N := 21) hx hb hts in_X2 hown hK hP 3 rfl rfl 3 (by decide) (va_Nw.use rfl (hN _ (zN_of q170 rfl))) (fun _ h9 => h9) rfl dX5_can_38 ?_
  obtain ⟨r_8, hc_7, hrun⟩ := mob_s rfl hrun
  refine cRSN (ws := []) (As := [.int r_6, .int (wd_bath sw)]) ⟨hx, hb, hml, hown, hts⟩ hOK hz va_S.rf zP0 (mtX1_has l D Z hOK _ _ _ hc_7) (kX1_hasn hN hts (hN _ (zN_of q667 rfl)) rfl rfl ⟨Nat.le_of_ble_eq_true rfl, Nat.le_of_ble_eq_true rfl⟩) rfl hl.1 rfl (lv_room (Nat.le_of_ble_eq_true rfl)) ⟨Nat.le_of_ble_eq_true rfl, Nat.le_of_ble_eq_true rfl⟩ dX5_can_41 ?_
  refine lv_if_ne (tgt := 51) hx hb dX5_can_44 (by decide) (fun c_9 => ?_) (fun c_9 => ?_)
  · have hrun := mif_p (bz_nz c_9) hrun
    refine lv_iconst (v := (0 : Int32)) hx hb dX5_can_51 (by decide) ?_
    cases hrun
    exact retR_z (v := false) hx hb hr hlocks rfl dX5_can_52
  have hrun := mif_n (bz_z c_9) hrun
  refine lv_iconst (v := (1 : Int32)) hx hb dX5_can_47 (by decide) ?_
  refine lv_goto (tgt := 52) hx hb dX5_can_48 (by decide) ?_
  cases hrun
  exact retR_z (v := true) hx hb hr hlocks rfl dX5_can_52
def rX5_by : Room := { frames := 1, cells := 0, slots := 0, locals := 22 }
noncomputable def fX5_by (slo : Lo) (sh : Kp) (sw : Wd) (p1 : Int32) (p2 : Int32) (p3 : Int32) : Option (Int32) :=
  mob (fX5_at slo (p1 + (1 : Int32)) (p2 ||| ((1 : Int32) <<< (p3 &&& (31 : Int32))))) fun r_2 =>
  mck r_2 2304 <|
  mck p1 8 <|
  if ((wd_room sw) (Int32.toNatClampNeg p1)) = p3 then
    some (((lo_least slo) (Int32.toNatClampNeg r_2)) + (0 : Int32))
  else
    some (((lo_least slo) (Int32.toNatClampNeg r_2)) + (1 : Int32))
theorem kX5_by {R : Room} {s : State} {args : Array Value} {own : String} {idx mc ms : Nat} {rm : Room} (hts : ∀ w ∈ lw_all, w.before args s = true) (hl : Cond.methodLink own idx yX5_by ∈ lw_all) (hrc : rm.cells = mc) (hrs : rm.slots = ms) (hR : rm.frames + 1 ≤ R.frames ∧ 8 + (4 + 11) + rm.locals ≤ R.locals) : CallW R s args own RX5 idx yX5_by cX5_by 4 (some .int) (ws_ yX5_by cX5_by 4 (some .int)) rm mc ms 3 :=
  cwV 3 hts (lw_V hl q671 qs10 q114 q672) rfl hrc hrs (by decide +kernel) hR
set_option maxHeartbeats 4000000 in
set_option maxRecDepth 100000 in
theorem mtX5_by (l : Launch) (D : va_G) (k : Nat → ClassId) (ah : Nat → Nat) (alo : Nat → Nat) (aw : Nat → Nat) (adr : Nat → Nat) (aim : Nat → Nat) (ard : Nat → Nat) (asc : Nat → Nat) (ath : Nat → Nat) (awl : Nat → Nat) (atr : Nat → Nat) (Z : zZ) (hOK : zOK D zCl (zTys k) Z) (slo : Lo) (sh : Kp) (sw : Wd) (p1 : Int32) (p2 : Int32) (p3 : Int32) (r : Int32) (hrun : fX5_by slo sh sw p1 p2 p3 = some r) :
    CtR l yX5_by cX5_by 4 (some .int) rX5_by Z D zCl ((cL k alo (ah 0) slo) ++ ((cH k ah aw adr aim ard asc ath awl alo atr sh) ++ (cW k aw sw))) [.ref (alo 0), .int p1, .int p2, .int p3] (some (.int r)) := by
  refine CtR.of (by decide) (Nat.le_of_ble_eq_true rfl) ?_
  intro p e s m args below meth c hE hP hz ls hl
  obtain ⟨hx, hb, hr, hml, hown, hts, hlocks, hname⟩ := hE
  have hown : s.vm.findClass RX5 = some m.cls := hown
  have hK := hOK.1 _ _ _ hz
  have hN := hOK.2.1 _ _ _ hz
  have hl : lv_has ls 4 [(0, .ref (alo 0)), (1, .int p1), (2, .int p2), (3, .int p3)] := hl
  unfold fX5_by at hrun
  refine lv_aload_n hx hb dX5_by_0 rfl (lv_at hl 0 rfl) ?_
  refine va_get (ci := 5) (v := .ref (alo 1)) (C := RX5) (T := TX5) (N := 2) hx hb hts in_X5 hown hK hP 0 rfl rfl 0 (by decide) (hts _ q362) (fun _ h9 => h9) rfl dX5_by_1 ?_
  refine lv_aload_n hx hb dX5_by_4 rfl (lv_at hl 0 rfl) ?_
  refine lv_iload_n hx hb dX5_by_5 rfl (lv_at hl 1 rfl) ?_
  refine lv_iconst (v := (1 : Int32)) hx hb dX5_by_6 (by decide) ?_
  refine lv_iadd hx hb dX5_by_7 ?_
  refine lv_iload_n hx hb dX5_by_8 rfl (lv_at hl 2 rfl) ?_
  refine lv_iconst (v := (1 : Int32)) hx hb dX5_by_9 (by decide) ?_
  refine lv_iload_n hx hb dX5_by_10 rfl (lv_at hl 3 rfl) ?_
  refine lv_ishl hx hb dX5_by_11 ?_
  refine lv_ior hx hb dX5_by_12 ?_
  obtain ⟨r_2, hc_1, hrun⟩ := mob_s rfl hrun
  refine cRV (As := [.int (p1 + (1 : Int32)), .int (p2 ||| ((1 : Int32) <<< (p3 &&& (31 : Int32))))]) (ci := 5) ⟨hx, hb, hml, hown, hts⟩ hOK hz va_S.rf (hP.sub (ws' := (cL k alo (ah 0) slo)) [0, 1] rfl) (mtX5_at l D k ah alo Z hOK _ _ _ _ hc_1) (kX5_at hts q654 rfl rfl ⟨Nat.le_of_ble_eq_true rfl, Nat.le_of_ble_eq_true rfl⟩) 0 rfl rfl rfl hl.1 rfl (lv_room (Nat.le_of_ble_eq_true rfl)) ⟨Nat.le_of_ble_eq_true rfl, Nat.le_of_ble_eq_true rfl⟩ dX5_by_13 ?_
  obtain ⟨hb_3, hrun⟩ := mck_s rfl hrun
  refine va_iald hx hb hK hP 1 0 rfl rfl hb_3 dX5_by_16 ?_
  refine lv_aload_n hx hb dX5_by_17 rfl (lv_at hl 0 rfl) ?_
  refine va_get (ci := 5) (v := .ref (ah 0)) (C := RX5) (T := TX5) (N := 2) hx hb hts in_X5 hown hK hP 0 rfl rfl 1 (by decide) (hts _ q364) (fun _ h9 => h9) rfl dX5_by_18 ?_
  refine va_getN (ci := 1) (v := .ref (aw 0)) (C := RX1) (T := TX1) (N := 10) hx hb hts in_X1 hown hK hP 2 rfl rfl 0 (by decide) (va_Nw.use rfl (hN _ (zN_of q371 rfl))) (fun _ h9 => h9) rfl dX5_by_21 ?_
  refine va_getN (ci := 2) (v := .ref (aw 2)) (C := RX2) (T := TX2) (N := 21) hx hb hts in_X2 hown hK hP 3 rfl rfl 13 (by decide) (va_Nw.use rfl (hN _ (zN_of q191 rfl))) (fun _ h9 => h9) rfl dX5_by_24 ?_
  refine lv_iload_n hx hb dX5_by_27 rfl (lv_at hl 1 rfl) ?_
  obtain ⟨hb_4, hrun⟩ := mck_s rfl hrun
  refine va_iald hx hb hK hP 5 0 rfl rfl hb_4 dX5_by_28 ?_
  refine lv_iload_n hx hb dX5_by_29 rfl (lv_at hl 3 rfl) ?_
  refine lv_icmp_ne (tgt := 37) hx hb dX5_by_30 (by decide) (fun c_5 => ?_) (fun c_5 => ?_)
  · have hrun := mif_n c_5 hrun
    refine lv_iconst (v := (1 : Int32)) hx hb dX5_by_37 (by decide) ?_
    refine lv_iadd hx hb dX5_by_38 ?_
    cases hrun
    exact retR_i hx hb hr hlocks rfl dX5_by_39
  have hrun := mif_p c_5 hrun
  refine lv_iconst (v := (0 : Int32)) hx hb dX5_by_33 (by decide) ?_
  refine lv_goto (tgt := 38) hx hb dX5_by_34 (by decide) ?_
  refine lv_iadd hx hb dX5_by_38 ?_
  cases hrun
  exact retR_i hx hb hr hlocks rfl dX5_by_39
