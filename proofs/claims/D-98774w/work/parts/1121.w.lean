/-! walks: X6_ahead, X6_first, X6_spread, X6_trial -/
def rX6_ahead : Room := { frames := 40, cells := 0, slots := 0, locals := 1080 }
noncomputable def fX6_ahead (t : Tw) (p1 : Int32) (p2 : Int32) (p3 : Int32) : Option (Int32 × Tw) :=
  mob (fX6_isGuest t p1) fun r_2 =>
  mjn (fun (y_5 : Int32) =>
  mlt (tw_s_thrown t y_5) fun t_7 =>
  if (tw_thrown t_7) ≤ (0 : Int32) then
    mob (fX6_putsAside t_7) fun t_10 =>
    mo2 (fX6_goes t_10 p2 false) fun r_13 t_12 =>
    mjn (fun (y_16 : Int32) =>
    mob (fX6_comesBack t_12) fun t_19 =>
    some (y_16, t_19)) fun K_17 =>
    if p3 = (0 : Int32) then
      mob (fX6_of t_12 p1 (2 : Int32)) fun r_22 =>
      K_17 r_22
    else
      if p3 = (1 : Int32) then
        K_17 ((tw_m t_12) 8)
      else
        K_17 ((tw_m t_12) 7)
  else
    some ((0 : Int32), t_7)) fun K_6 =>
  if r_2 = true then
    mob (fX6_isIn p2 (0 : Int32) (400 : Int32)) fun r_24 =>
    if r_24 = true then
      mob (fX6_isIn p3 (0 : Int32) (2 : Int32)) fun r_27 =>
      if r_27 = true then
        K_6 (0 : Int32)
      else
        K_6 (3 : Int32)
    else
      K_6 (2 : Int32)
  else
    K_6 (1 : Int32)
theorem kX6_ahead {R : Room} {s : State} {args : Array Value} {own : String} {idx mc ms : Nat} {rm : Room} (hts : ∀ w ∈ lw_all, w.before args s = true) (hl : Cond.methodLink own idx yX6_ahead ∈ lw_all) (hrc : rm.cells = mc) (hrs : rm.slots = ms) (hR : rm.frames + 1 ≤ R.frames ∧ 8 + (6 + 11) + rm.locals ≤ R.locals) : CallW R s args own RX6 idx yX6_ahead cX6_ahead 6 (some .int) (ws_ yX6_ahead cX6_ahead 6 (some .int)) rm mc ms 3 :=
  cwV 3 hts (lw_V hl q2277 q2278 q115 q2279) rfl hrc hrs (by decide +kernel) hR
set_option maxHeartbeats 4000000 in
set_option maxRecDepth 100000 in
theorem mtX6_ahead (l : Launch) (D : va_G) (k : Nat → ClassId) (a : Nat → Nat) (Z : zZ) (hOK : zOK D zCl (zTys k) Z) {adK adV : Nat → Nat} (hStr : zStr Z adK adV) (t : Tw) (p1 : Int32) (p2 : Int32) (p3 : Int32) (r : Int32) (tt : Tw) (hrun : fX6_ahead t p1 p2 p3 = some (r, tt)) :
    CtW l yX6_ahead cX6_ahead 6 (some .int) rX6_ahead Z D zCl (cT k a t) [.ref (a 0), .int p1, .int p2, .int p3] (fun r' w' => r' = (some (.int r)) ∧ w' = cT k a tt) 0 0 := by
  refine CtW.of (by decide) (Nat.le_of_ble_eq_true rfl) ?_
  intro p e s m args below meth c A hE hA hP hD hS hz ls hl
  obtain ⟨hx, hb, hr, hml, hown, hts, hlocks, hname⟩ := hE
  have hown : s.vm.findClass RX6 = some m.cls := hown
  have hK := hOK.1 _ _ _ hz
  have hl : lv_has ls 6 [(0, .ref (a 0)), (1, .int p1), (2, .int p2), (3, .int p3)] := hl
  unfold fX6_ahead at hrun
  refine lv_aload_n hx hb dX6_ahead_0 rfl (lv_at hl 0 rfl) ?_
  refine lv_aload_n hx hb dX6_ahead_1 rfl (lv_at hl 0 rfl) ?_
  refine lv_iload_n hx hb dX6_ahead_2 rfl (lv_at hl 1 rfl) ?_
  obtain ⟨r_2, hc_1, hrun⟩ := mob_s rfl hrun
  refine cRV (As := [.int p1]) (ci := 0) ⟨hx, hb, hml, hown, hts⟩ hOK hz hS hP (mtX6_isGuest l D k a Z hOK _ _ _ hc_1) (kX6_isGuest hts q2132 rfl rfl ⟨Nat.le_of_ble_eq_true rfl, Nat.le_of_ble_eq_true rfl⟩) 0 rfl rfl rfl hl.1 rfl (lv_room (Nat.le_of_ble_eq_true rfl)) ⟨Nat.le_of_ble_eq_true rfl, Nat.le_of_ble_eq_true rfl⟩ dX6_ahead_3 ?_
  obtain ⟨K_6, hK_6, hrun⟩ := mjn_s hrun
  have hj_4 : ∀ (y_5 : Int32), ∀ (H : Heap) (locs : List Loc), va_P D zCl (cT k a t) H → va_D A (cT k a t) → va_S A s.heap H locs → ∀ ls : Array Slot, lv_has ls 6 [(0, .ref (a 0)), (1, .int p1), (2, .int p2), (3, .int p3)] → K_6 y_5 = some (r, tt) → W p l e rX6_ahead s m args below meth c H locs 0 0 (MQ below (QWr (fun r' w' => r' = (some (.int r)) ∧ w' = cT k a tt) D zCl A) args s 0 0 A) (F0 m 42 ls [.int y_5, .ref (a 0)]) := by
    intro y_5 H locs hP hD hS ls hl hrun
    rw [hK_6] at hrun
    refine va_put (ci := 0) (v := .int y_5) (ty := tyX6 0) (C := RX6) (T := TX6) (N := 22) hx hb hts in_X6 tyX6 tyX6_ok nmX6 hown hK hP hD hS 0 rfl rfl 0 (by decide) (hts _ q1902) (fun _ h9 => h9) rfl (tyX6_ok 0 (by decide)) rfl rfl (Nat.le_of_ble_eq_true rfl) dX6_ahead_42 (fun H locs hP hD hS => ?_)
    have hP : va_P D zCl (cT k a (tw_s_thrown t y_5)) H := hP
    have hD : va_D A (cT k a (tw_s_thrown t y_5)) := hD
    obtain ⟨t_7, et_7⟩ : ∃ z : Tw, z = (tw_s_thrown t y_5) := ⟨_, rfl⟩
    rw [← et_7] at hP hD
    have hrun := mlt_s hrun t_7 et_7
    refine lv_aload_n hx hb dX6_ahead_45 rfl (lv_at hl 0 rfl) ?_
    refine va_get (ci := 0) (v := .int (tw_thrown t_7)) (C := RX6) (T := TX6) (N := 22) hx hb hts in_X6 hown hK hP 0 rfl rfl 0 (by decide) (hts _ q1902) (fun _ h9 => h9) rfl dX6_ahead_46 ?_
    refine lv_if_le (tgt := 54) hx hb dX6_ahead_49 (by decide) (fun c_8 => ?_) (fun c_8 => ?_)
    · have hrun := mif_p c_8 hrun
      refine lv_aload_n hx hb dX6_ahead_54 rfl (lv_at hl 0 rfl) ?_
      obtain ⟨t_10, hc_9, hrun⟩ := mob_s rfl hrun
      refine cWV00 (As := []) (ci := 0) ⟨hx, hb, hml, hown, hts⟩ hOK hz hS hA hP hD (mtX6_putsAside l D k a Z hOK _ _ hc_9) (kX6_putsAside hts q1988 rfl rfl ⟨Nat.le_of_ble_eq_true rfl, Nat.le_of_ble_eq_true rfl⟩) 0 rfl rfl rfl hl.1 rfl (lv_room (Nat.le_of_ble_eq_true rfl)) ⟨Nat.le_of_ble_eq_true rfl, Nat.le_of_ble_eq_true rfl⟩ dX6_ahead_55 (fun r_ w_ H locs hq hP hD hS => ?_)
      obtain ⟨rfl, rfl⟩ := hq
      refine lv_aload_n hx hb dX6_ahead_58 rfl (lv_at hl 0 rfl) ?_
      refine lv_iload_n hx hb dX6_ahead_59 rfl (lv_at hl 2 rfl) ?_
      refine lv_iconst (v := (0 : Int32)) hx hb dX6_ahead_60 (by decide) ?_
      obtain ⟨r_13, t_12, hc_11, hrun⟩ := mo2_s rfl hrun
      refine cWV00 (As := [.int p2, .int (bz false)]) (ci := 0) ⟨hx, hb, hml, hown, hts⟩ hOK hz hS hA hP hD (mtX6_goes l D k a Z hOK hStr _ _ _ _ _ hc_11) (kX6_goes hts q2256 rfl rfl ⟨Nat.le_of_ble_eq_true rfl, Nat.le_of_ble_eq_true rfl⟩) 0 rfl rfl rfl hl.1 rfl (lv_room (Nat.le_of_ble_eq_true rfl)) ⟨Nat.le_of_ble_eq_true rfl, Nat.le_of_ble_eq_true rfl⟩ dX6_ahead_61 (fun r_ w_ H locs hq hP hD hS => ?_)
      obtain ⟨rfl, rfl⟩ := hq
      refine lv_istore (lv' := [(4, .int r_13), (0, .ref (a 0)), (1, .int p1), (2, .int p2), (3, .int p3)]) hx hb dX6_ahead_64 hl (by decide) rfl (fun ls hl => ?_)
      refine lv_iload_n hx hb dX6_ahead_66 rfl (lv_at hl 4 rfl) ?_
      obtain ⟨K_17, hK_17, hrun⟩ := mjn_s hrun
      have hj_15 : ∀ (y_16 : Int32), ∀ (H : Heap) (locs : List Loc), va_P D zCl (cT k a t_12) H → va_D A (cT k a t_12) → va_S A s.heap H locs → ∀ ls : Array Slot, lv_has ls 6 [(0, .ref (a 0))] → K_17 y_16 = some (r, tt) → W p l e rX6_ahead s m args below meth c H locs 0 0 (MQ below (QWr (fun r' w' => r' = (some (.int r)) ∧ w' = cT k a tt) D zCl A) args s 0 0 A) (F0 m 101 ls [.int y_16]) := by
        intro y_16 H locs hP hD hS ls hl hrun
        rw [hK_17] at hrun
        refine lv_istore (lv' := [(5, .int y_16), (0, .ref (a 0))]) hx hb dX6_ahead_101 hl (by decide) rfl (fun ls hl => ?_)
        refine lv_aload_n hx hb dX6_ahead_103 rfl (lv_at hl 1 rfl) ?_
        obtain ⟨t_19, hc_18, hrun⟩ := mob_s rfl hrun
        refine cWV00 (As := []) (ci := 0) ⟨hx, hb, hml, hown, hts⟩ hOK hz hS hA hP hD (mtX6_comesBack l D k a Z hOK _ _ hc_18) (kX6_comesBack hts q2116 rfl rfl ⟨Nat.le_of_ble_eq_true rfl, Nat.le_of_ble_eq_true rfl⟩) 0 rfl rfl rfl hl.1 rfl (lv_room (Nat.le_of_ble_eq_true rfl)) ⟨Nat.le_of_ble_eq_true rfl, Nat.le_of_ble_eq_true rfl⟩ dX6_ahead_104 (fun r_ w_ H locs hq hP hD hS => ?_)
        obtain ⟨rfl, rfl⟩ := hq
        refine lv_iload hx hb dX6_ahead_107 (lv_at hl 0 rfl) ?_
        cases hrun
        exact retW_i hx hb hr hlocks hP hD hS ⟨rfl, rfl⟩ dX6_ahead_109
      refine lv_if_ne (tgt := 79) hx hb dX6_ahead_67 (by decide) (fun c_14 => ?_) (fun c_14 => ?_)
      · have hrun := mif_n c_14 hrun
        refine lv_iload_n hx hb dX6_ahead_79 rfl (lv_at hl 4 rfl) ?_
        refine lv_iconst (v := (1 : Int32)) hx hb dX6_ahead_80 (by decide) ?_
        refine lv_icmp_ne (tgt := 94) hx hb dX6_ahead_81 (by decide) (fun c_20 => ?_) (fun c_20 => ?_)
        · have hrun := mif_n c_20 hrun
          refine lv_aload_n hx hb dX6_ahead_94 rfl (lv_at hl 1 rfl) ?_
          refine va_get (ci := 0) (v := .ref (a 1)) (C := RX6) (T := TX6) (N := 22) hx hb hts in_X6 hown hK hP 0 rfl rfl 1 (by decide) (hts _ q1903) (fun _ h9 => h9) rfl dX6_ahead_95 ?_
          refine lv_bipush (v := (7 : Int32)) hx hb dX6_ahead_98 (by decide) ?_
          refine va_ialdk (k := 7) hx hb hK hP 1 0 rfl rfl rfl (show ¬ _ from by decide) dX6_ahead_100 ?_
          exact hj_15 ((tw_m t_12) 7) _ _ hP hD hS ls (lv_sub hl [1] rfl) hrun
        have hrun := mif_p c_20 hrun
        refine lv_aload_n hx hb dX6_ahead_84 rfl (lv_at hl 1 rfl) ?_
        refine va_get (ci := 0) (v := .ref (a 1)) (C := RX6) (T := TX6) (N := 22) hx hb hts in_X6 hown hK hP 0 rfl rfl 1 (by decide) (hts _ q1903) (fun _ h9 => h9) rfl dX6_ahead_85 ?_
        refine lv_bipush (v := (8 : Int32)) hx hb dX6_ahead_88 (by decide) ?_
        refine va_ialdk (k := 8) hx hb hK hP 1 0 rfl rfl rfl (show ¬ _ from by decide) dX6_ahead_90 ?_
        refine lv_goto (tgt := 101) hx hb dX6_ahead_91 (by decide) ?_
        exact hj_15 ((tw_m t_12) 8) _ _ hP hD hS ls (lv_sub hl [1] rfl) hrun
      have hrun := mif_p c_14 hrun
      refine lv_aload_n hx hb dX6_ahead_70 rfl (lv_at hl 1 rfl) ?_
      refine lv_iload_n hx hb dX6_ahead_71 rfl (lv_at hl 2 rfl) ?_
      refine lv_iconst (v := (2 : Int32)) hx hb dX6_ahead_72 (by decide) ?_
      obtain ⟨r_22, hc_21, hrun⟩ := mob_s rfl hrun
      refine cRV (As := [.int p1, .int (2 : Int32)]) (ci := 0) ⟨hx, hb, hml, hown, hts⟩ hOK hz hS hP (mtX6_of l D k a Z hOK _ _ _ _ hc_21) (kX6_of hts q2136 rfl rfl ⟨Nat.le_of_ble_eq_true rfl, Nat.le_of_ble_eq_true rfl⟩) 0 rfl rfl rfl hl.1 rfl (lv_room (Nat.le_of_ble_eq_true rfl)) ⟨Nat.le_of_ble_eq_true rfl, Nat.le_of_ble_eq_true rfl⟩ dX6_ahead_73 ?_
      refine lv_goto (tgt := 101) hx hb dX6_ahead_76 (by decide) ?_
      exact hj_15 r_22 _ _ hP hD hS ls (lv_sub hl [1] rfl) hrun
    have hrun := mif_n c_8 hrun
    refine lv_iconst (v := (0 : Int32)) hx hb dX6_ahead_52 (by decide) ?_
    cases hrun
    exact retW_i hx hb hr hlocks hP hD hS ⟨rfl, rfl⟩ dX6_ahead_53
  refine lv_if_ne (tgt := 13) hx hb dX6_ahead_6 (by decide) (fun c_3 => ?_) (fun c_3 => ?_)
  · have hrun := mif_p (bz_nz c_3) hrun
    refine lv_iload_n hx hb dX6_ahead_13 rfl (lv_at hl 2 rfl) ?_
    refine lv_iconst (v := (0 : Int32)) hx hb dX6_ahead_14 (by decide) ?_
    refine lv_sipush (v := (400 : Int32)) hx hb dX6_ahead_15 (by decide) ?_
    obtain ⟨r_24, hc_23, hrun⟩ := mob_s rfl hrun
    refine cRS (ws := []) (As := [.int p2, .int (0 : Int32), .int (400 : Int32)]) ⟨hx, hb, hml, hown, hts⟩ hOK hz hS zP0 (mtX6_isIn l D Z hOK _ _ _ _ hc_23) (kX6_isIn hts q1981 rfl rfl ⟨Nat.le_of_ble_eq_true rfl, Nat.le_of_ble_eq_true rfl⟩) rfl hl.1 rfl (lv_room (Nat.le_of_ble_eq_true rfl)) ⟨Nat.le_of_ble_eq_true rfl, Nat.le_of_ble_eq_true rfl⟩ dX6_ahead_18 ?_
    refine lv_if_ne (tgt := 28) hx hb dX6_ahead_21 (by decide) (fun c_25 => ?_) (fun c_25 => ?_)
    · have hrun := mif_p (bz_nz c_25) hrun
      refine lv_iload_n hx hb dX6_ahead_28 rfl (lv_at hl 3 rfl) ?_
      refine lv_iconst (v := (0 : Int32)) hx hb dX6_ahead_29 (by decide) ?_
      refine lv_iconst (v := (2 : Int32)) hx hb dX6_ahead_30 (by decide) ?_
      obtain ⟨r_27, hc_26, hrun⟩ := mob_s rfl hrun
      refine cRS (ws := []) (As := [.int p3, .int (0 : Int32), .int (2 : Int32)]) ⟨hx, hb, hml, hown, hts⟩ hOK hz hS zP0 (mtX6_isIn l D Z hOK _ _ _ _ hc_26) (kX6_isIn hts q1981 rfl rfl ⟨Nat.le_of_ble_eq_true rfl, Nat.le_of_ble_eq_true rfl⟩) rfl hl.1 rfl (lv_room (Nat.le_of_ble_eq_true rfl)) ⟨Nat.le_of_ble_eq_true rfl, Nat.le_of_ble_eq_true rfl⟩ dX6_ahead_31 ?_
      refine lv_if_ne (tgt := 41) hx hb dX6_ahead_34 (by decide) (fun c_28 => ?_) (fun c_28 => ?_)
      · have hrun := mif_p (bz_nz c_28) hrun
        refine lv_iconst (v := (0 : Int32)) hx hb dX6_ahead_41 (by decide) ?_
        exact hj_4 (0 : Int32) _ _ hP hD hS ls (lv_sub hl [0, 1, 2, 3] rfl) hrun
      have hrun := mif_n (bz_z c_28) hrun
      refine lv_iconst (v := (3 : Int32)) hx hb dX6_ahead_37 (by decide) ?_
      refine lv_goto (tgt := 42) hx hb dX6_ahead_38 (by decide) ?_
      exact hj_4 (3 : Int32) _ _ hP hD hS ls (lv_sub hl [0, 1, 2, 3] rfl) hrun
    have hrun := mif_n (bz_z c_25) hrun
    refine lv_iconst (v := (2 : Int32)) hx hb dX6_ahead_24 (by decide) ?_
    refine lv_goto (tgt := 42) hx hb dX6_ahead_25 (by decide) ?_
    exact hj_4 (2 : Int32) _ _ hP hD hS ls (lv_sub hl [0, 1, 2, 3] rfl) hrun
  have hrun := mif_n (bz_z c_3) hrun
  refine lv_iconst (v := (1 : Int32)) hx hb dX6_ahead_9 (by decide) ?_
  refine lv_goto (tgt := 42) hx hb dX6_ahead_10 (by decide) ?_
  exact hj_4 (1 : Int32) _ _ hP hD hS ls (lv_sub hl [0, 1, 2, 3] rfl) hrun
def rX6_first : Room := { frames := 40, cells := 0, slots := 0, locals := 1080 }
noncomputable def fX6_first_L49 (K_14 : Int32 → Tw → Option (Int32 × Tw)) (p1 : Int32) (p2 : Int32) : Nat → Int32 → Int32 → Tw → Option (Int32 × Tw)
  | 0, _, _, _ => none
  | n + 1, x3_18, x4_19, t_20 =>
    if (400 : Int32) < x4_19 then
      K_14 x3_18 t_20
    else
      if x3_18 = (-1 : Int32) then
        mob (fX6_of t_20 p1 (2 : Int32)) fun r_24 =>
        mjn (fun (x3_27 : Int32) =>
        mo2 (fX6_goes t_20 (1 : Int32) false) fun r_31 t_30 =>
        fX6_first_L49 K_14 p1 p2 n x3_27 (x4_19 + (1 : Int32)) t_30) fun K_28 =>
        if r_24 < p2 then
          K_28 x3_18
        else
          K_28 x4_19
      else
        K_14 x3_18 t_20
noncomputable def fX6_first (t : Tw) (p1 : Int32) (p2 : Int32) : Option (Int32 × Tw) :=
  mob (fX6_isGuest t p1) fun r_2 =>
  mjn (fun (y_5 : Int32) =>
  mlt (tw_s_thrown t y_5) fun t_7 =>
  if (tw_thrown t_7) ≤ (0 : Int32) then
    mob (fX6_putsAside t_7) fun t_10 =>
    mjn (fun (x3_12 : Int32) (t_13 : Tw) =>
    mob (fX6_comesBack t_13) fun t_16 =>
    some (x3_12, t_16)) fun K_14 =>
    fX6_first_L49 K_14 p1 p2 mFU (-1 : Int32) (0 : Int32) t_10
  else
    some ((0 : Int32), t_7)) fun K_6 =>
  if r_2 = true then
    mob (fX6_isIn p2 (1 : Int32) (99 : Int32)) fun r_34 =>
    if r_34 = true then
      K_6 (0 : Int32)
    else
      K_6 (2 : Int32)
  else
    K_6 (1 : Int32)
theorem kX6_first {R : Room} {s : State} {args : Array Value} {own : String} {idx mc ms : Nat} {rm : Room} (hts : ∀ w ∈ lw_all, w.before args s = true) (hl : Cond.methodLink own idx yX6_first ∈ lw_all) (hrc : rm.cells = mc) (hrs : rm.slots = ms) (hR : rm.frames + 1 ≤ R.frames ∧ 8 + (6 + 11) + rm.locals ≤ R.locals) : CallW R s args own RX6 idx yX6_first cX6_first 6 (some .int) (ws_ yX6_first cX6_first 6 (some .int)) rm mc ms 2 :=
  cwV 2 hts (lw_V hl q2289 q2290 q115 q2291) rfl hrc hrs (by decide +kernel) hR
set_option maxHeartbeats 4000000 in
set_option maxRecDepth 100000 in
theorem mtX6_first (l : Launch) (D : va_G) (k : Nat → ClassId) (a : Nat → Nat) (Z : zZ) (hOK : zOK D zCl (zTys k) Z) {adK adV : Nat → Nat} (hStr : zStr Z adK adV) (t : Tw) (p1 : Int32) (p2 : Int32) (r : Int32) (tt : Tw) (hrun : fX6_first t p1 p2 = some (r, tt)) :
    CtW l yX6_first cX6_first 6 (some .int) rX6_first Z D zCl (cT k a t) [.ref (a 0), .int p1, .int p2] (fun r' w' => r' = (some (.int r)) ∧ w' = cT k a tt) 0 0 := by
  refine CtW.of (by decide) (Nat.le_of_ble_eq_true rfl) ?_
  intro p e s m args below meth c A hE hA hP hD hS hz ls hl
  obtain ⟨hx, hb, hr, hml, hown, hts, hlocks, hname⟩ := hE
  have hown : s.vm.findClass RX6 = some m.cls := hown
  have hK := hOK.1 _ _ _ hz
  have hl : lv_has ls 6 [(0, .ref (a 0)), (1, .int p1), (2, .int p2)] := hl
  unfold fX6_first at hrun
  refine lv_aload_n hx hb dX6_first_0 rfl (lv_at hl 0 rfl) ?_
  refine lv_aload_n hx hb dX6_first_1 rfl (lv_at hl 0 rfl) ?_
  refine lv_iload_n hx hb dX6_first_2 rfl (lv_at hl 1 rfl) ?_
  obtain ⟨r_2, hc_1, hrun⟩ := mob_s rfl hrun
  refine cRV (As := [.int p1]) (ci := 0) ⟨hx, hb, hml, hown, hts⟩ hOK hz hS hP (mtX6_isGuest l D k a Z hOK _ _ _ hc_1) (kX6_isGuest hts q2132 rfl rfl ⟨Nat.le_of_ble_eq_true rfl, Nat.le_of_ble_eq_true rfl⟩) 0 rfl rfl rfl hl.1 rfl (lv_room (Nat.le_of_ble_eq_true rfl)) ⟨Nat.le_of_ble_eq_true rfl, Nat.le_of_ble_eq_true rfl⟩ dX6_first_3 ?_
  obtain ⟨K_6, hK_6, hrun⟩ := mjn_s hrun
  have hj_4 : ∀ (y_5 : Int32), ∀ (H : Heap) (locs : List Loc), va_P D zCl (cT k a t) H → va_D A (cT k a t) → va_S A s.heap H locs → ∀ ls : Array Slot, lv_has ls 6 [(0, .ref (a 0)), (1, .int p1), (2, .int p2)] → K_6 y_5 = some (r, tt) → W p l e rX6_first s m args below meth c H locs 0 0 (MQ below (QWr (fun r' w' => r' = (some (.int r)) ∧ w' = cT k a tt) D zCl A) args s 0 0 A) (F0 m 28 ls [.int y_5, .ref (a 0)]) := by
    intro y_5 H locs hP hD hS ls hl hrun
    rw [hK_6] at hrun
    refine va_put (ci := 0) (v := .int y_5) (ty := tyX6 0) (C := RX6) (T := TX6) (N := 22) hx hb hts in_X6 tyX6 tyX6_ok nmX6 hown hK hP hD hS 0 rfl rfl 0 (by decide) (hts _ q1902) (fun _ h9 => h9) rfl (tyX6_ok 0 (by decide)) rfl rfl (Nat.le_of_ble_eq_true rfl) dX6_first_28 (fun H locs hP hD hS => ?_)
    have hP : va_P D zCl (cT k a (tw_s_thrown t y_5)) H := hP
    have hD : va_D A (cT k a (tw_s_thrown t y_5)) := hD
    obtain ⟨t_7, et_7⟩ : ∃ z : Tw, z = (tw_s_thrown t y_5) := ⟨_, rfl⟩
    rw [← et_7] at hP hD
    have hrun := mlt_s hrun t_7 et_7
    refine lv_aload_n hx hb dX6_first_31 rfl (lv_at hl 0 rfl) ?_
    refine va_get (ci := 0) (v := .int (tw_thrown t_7)) (C := RX6) (T := TX6) (N := 22) hx hb hts in_X6 hown hK hP 0 rfl rfl 0 (by decide) (hts _ q1902) (fun _ h9 => h9) rfl dX6_first_32 ?_
    refine lv_if_le (tgt := 40) hx hb dX6_first_35 (by decide) (fun c_8 => ?_) (fun c_8 => ?_)
    · have hrun := mif_p c_8 hrun
      refine lv_aload_n hx hb dX6_first_40 rfl (lv_at hl 0 rfl) ?_
      obtain ⟨t_10, hc_9, hrun⟩ := mob_s rfl hrun
      refine cWV00 (As := []) (ci := 0) ⟨hx, hb, hml, hown, hts⟩ hOK hz hS hA hP hD (mtX6_putsAside l D k a Z hOK _ _ hc_9) (kX6_putsAside hts q1988 rfl rfl ⟨Nat.le_of_ble_eq_true rfl, Nat.le_of_ble_eq_true rfl⟩) 0 rfl rfl rfl hl.1 rfl (lv_room (Nat.le_of_ble_eq_true rfl)) ⟨Nat.le_of_ble_eq_true rfl, Nat.le_of_ble_eq_true rfl⟩ dX6_first_41 (fun r_ w_ H locs hq hP hD hS => ?_)
      obtain ⟨rfl, rfl⟩ := hq
      refine lv_iconst (v := (-1 : Int32)) hx hb dX6_first_44 (by decide) ?_
      refine lv_istore_n (lv' := [(3, .int (-1 : Int32)), (0, .ref (a 0)), (1, .int p1), (2, .int p2)]) hx hb dX6_first_45 rfl hl (by decide) rfl (fun ls hl => ?_)
      refine lv_iconst (v := (0 : Int32)) hx hb dX6_first_46 (by decide) ?_
      refine lv_istore (lv' := [(4, .int (0 : Int32)), (3, .int (-1 : Int32)), (0, .ref (a 0)), (1, .int p1), (2, .int p2)]) hx hb dX6_first_47 hl (by decide) rfl (fun ls hl => ?_)
      obtain ⟨K_14, hK_14, hrun⟩ := mjn_s hrun
      have hj_11 : ∀ (x3_12 : Int32) (t_13 : Tw), ∀ (H : Heap) (locs : List Loc), va_P D zCl (cT k a t_13) H → va_D A (cT k a t_13) → va_S A s.heap H locs → ∀ ls : Array Slot, lv_has ls 6 [(0, .ref (a 0)), (3, .int x3_12)] → K_14 x3_12 t_13 = some (r, tt) → W p l e rX6_first s m args below meth c H locs 0 0 (MQ below (QWr (fun r' w' => r' = (some (.int r)) ∧ w' = cT k a tt) D zCl A) args s 0 0 A) (F0 m 89 ls []) := by
        intro x3_12 t_13 H locs hP hD hS ls hl hrun
        rw [hK_14] at hrun
        refine lv_aload_n hx hb dX6_first_89 rfl (lv_at hl 0 rfl) ?_
        obtain ⟨t_16, hc_15, hrun⟩ := mob_s rfl hrun
        refine cWV00 (As := []) (ci := 0) ⟨hx, hb, hml, hown, hts⟩ hOK hz hS hA hP hD (mtX6_comesBack l D k a Z hOK _ _ hc_15) (kX6_comesBack hts q2116 rfl rfl ⟨Nat.le_of_ble_eq_true rfl, Nat.le_of_ble_eq_true rfl⟩) 0 rfl rfl rfl hl.1 rfl (lv_room (Nat.le_of_ble_eq_true rfl)) ⟨Nat.le_of_ble_eq_true rfl, Nat.le_of_ble_eq_true rfl⟩ dX6_first_90 (fun r_ w_ H locs hq hP hD hS => ?_)
        obtain ⟨rfl, rfl⟩ := hq
        refine lv_iload_n hx hb dX6_first_93 rfl (lv_at hl 1 rfl) ?_
        cases hrun
        exact retW_i hx hb hr hlocks hP hD hS ⟨rfl, rfl⟩ dX6_first_94
      have hL_17 : ∀ n : Nat, ∀ (x3_18 : Int32) (x4_19 : Int32) (t_20 : Tw), ∀ (H : Heap) (locs : List Loc), va_P D zCl (cT k a t_20) H → va_D A (cT k a t_20) → va_S A s.heap H locs → ∀ ls : Array Slot, lv_has ls 6 [(0, .ref (a 0)), (1, .int p1), (2, .int p2), (3, .int x3_18), (4, .int x4_19)] → fX6_first_L49 K_14 p1 p2 n x3_18 x4_19 t_20 = some (r, tt) → W p l e rX6_first s m args below meth c H locs 0 0 (MQ below (QWr (fun r' w' => r' = (some (.int r)) ∧ w' = cT k a tt) D zCl A) args s 0 0 A) (F0 m 49 ls []) := by
        intro n
        induction n with
        | zero =>
          intro x3_18 x4_19 t_20 H locs hP hD hS ls hl hrun
          exact nomatch hrun
        | succ n ih =>
          intro x3_18 x4_19 t_20 H locs hP hD hS ls hl hrun
          rw [fX6_first_L49.eq_2] at hrun
          refine lv_iload hx hb dX6_first_49 (lv_at hl 4 rfl) ?_
          refine lv_sipush (v := (400 : Int32)) hx hb dX6_first_51 (by decide) ?_
          refine lv_icmp_gt (tgt := 89) hx hb dX6_first_54 (by decide) (fun c_21 => ?_) (fun c_21 => ?_)
          · have hrun := mif_p c_21 hrun
            exact hj_11 x3_18 t_20 _ _ hP hD hS ls (lv_sub hl [0, 3] rfl) hrun
          have hrun := mif_n c_21 hrun
          refine lv_iload_n hx hb dX6_first_57 rfl (lv_at hl 3 rfl) ?_
          refine lv_iconst (v := (-1 : Int32)) hx hb dX6_first_58 (by decide) ?_
          refine lv_icmp_ne (tgt := 89) hx hb dX6_first_59 (by decide) (fun c_22 => ?_) (fun c_22 => ?_)
          · have hrun := mif_n c_22 hrun
            exact hj_11 x3_18 t_20 _ _ hP hD hS ls (lv_sub hl [0, 3] rfl) hrun
          have hrun := mif_p c_22 hrun
          refine lv_aload_n hx hb dX6_first_62 rfl (lv_at hl 0 rfl) ?_
          refine lv_iload_n hx hb dX6_first_63 rfl (lv_at hl 1 rfl) ?_
          refine lv_iconst (v := (2 : Int32)) hx hb dX6_first_64 (by decide) ?_
          obtain ⟨r_24, hc_23, hrun⟩ := mob_s rfl hrun
          refine cRV (As := [.int p1, .int (2 : Int32)]) (ci := 0) ⟨hx, hb, hml, hown, hts⟩ hOK hz hS hP (mtX6_of l D k a Z hOK _ _ _ _ hc_23) (kX6_of hts q2136 rfl rfl ⟨Nat.le_of_ble_eq_true rfl, Nat.le_of_ble_eq_true rfl⟩) 0 rfl rfl rfl hl.1 rfl (lv_room (Nat.le_of_ble_eq_true rfl)) ⟨Nat.le_of_ble_eq_true rfl, Nat.le_of_ble_eq_true rfl⟩ dX6_first_65 ?_
          refine lv_iload_n hx hb dX6_first_68 rfl (lv_at hl 2 rfl) ?_
          obtain ⟨K_28, hK_28, hrun⟩ := mjn_s hrun
          have hj_26 : ∀ (x3_27 : Int32), ∀ (H : Heap) (locs : List Loc), va_P D zCl (cT k a t_20) H → va_D A (cT k a t_20) → va_S A s.heap H locs → ∀ ls : Array Slot, lv_has ls 6 [(0, .ref (a 0)), (1, .int p1), (2, .int p2), (3, .int x3_27), (4, .int x4_19)] → K_28 x3_27 = some (r, tt) → W p l e rX6_first s m args below meth c H locs 0 0 (MQ below (QWr (fun r' w' => r' = (some (.int r)) ∧ w' = cT k a tt) D zCl A) args s 0 0 A) (F0 m 75 ls []) := by
            intro x3_27 H locs hP hD hS ls hl hrun
            rw [hK_28] at hrun
            refine lv_aload_n hx hb dX6_first_75 rfl (lv_at hl 0 rfl) ?_
            refine lv_iconst (v := (1 : Int32)) hx hb dX6_first_76 (by decide) ?_
            refine lv_iconst (v := (0 : Int32)) hx hb dX6_first_77 (by decide) ?_
            obtain ⟨r_31, t_30, hc_29, hrun⟩ := mo2_s rfl hrun
            refine cWV00 (As := [.int (1 : Int32), .int (bz false)]) (ci := 0) ⟨hx, hb, hml, hown, hts⟩ hOK hz hS hA hP hD (mtX6_goes l D k a Z hOK hStr _ _ _ _ _ hc_29) (kX6_goes hts q2256 rfl rfl ⟨Nat.le_of_ble_eq_true rfl, Nat.le_of_ble_eq_true rfl⟩) 0 rfl rfl rfl hl.1 rfl (lv_room (Nat.le_of_ble_eq_true rfl)) ⟨Nat.le_of_ble_eq_true rfl, Nat.le_of_ble_eq_true rfl⟩ dX6_first_78 (fun r_ w_ H locs hq hP hD hS => ?_)
            obtain ⟨rfl, rfl⟩ := hq
            refine lv_istore (lv' := [(5, .int r_31), (0, .ref (a 0)), (1, .int p1), (2, .int p2), (3, .int x3_27), (4, .int x4_19)]) hx hb dX6_first_81 hl (by decide) rfl (fun ls hl => ?_)
            refine lv_iinc (v := (x4_19 + (1 : Int32))) (lv' := [(4, .int (x4_19 + (1 : Int32))), (5, .int r_31), (0, .ref (a 0)), (1, .int p1), (2, .int p2), (3, .int x3_27)]) hx hb dX6_first_83 hl (k := 5) rfl rfl (by decide) rfl (fun ls hl => ?_)
            refine lv_goto (tgt := 49) hx hb dX6_first_86 (by decide) ?_
            exact ih x3_27 (x4_19 + (1 : Int32)) t_30 _ _ hP hD hS ls (lv_sub hl [2, 3, 4, 5, 0] rfl) hrun
          refine lv_icmp_lt (tgt := 75) hx hb dX6_first_69 (by decide) (fun c_25 => ?_) (fun c_25 => ?_)
          · have hrun := mif_p c_25 hrun
            exact hj_26 x3_18 _ _ hP hD hS ls (lv_sub hl [0, 1, 2, 3, 4] rfl) hrun
          have hrun := mif_n c_25 hrun
          refine lv_iload hx hb dX6_first_72 (lv_at hl 4 rfl) ?_
          refine lv_istore_n (lv' := [(3, .int x4_19), (0, .ref (a 0)), (1, .int p1), (2, .int p2), (4, .int x4_19)]) hx hb dX6_first_74 rfl hl (by decide) rfl (fun ls hl => ?_)
          exact hj_26 x4_19 _ _ hP hD hS ls (lv_sub hl [1, 2, 3, 0, 4] rfl) hrun
      exact hL_17 mFU (-1 : Int32) (0 : Int32) t_10 _ _ hP hD hS ls (lv_sub hl [2, 3, 4, 1, 0] rfl) hrun
    have hrun := mif_n c_8 hrun
    refine lv_iconst (v := (0 : Int32)) hx hb dX6_first_38 (by decide) ?_
    cases hrun
    exact retW_i hx hb hr hlocks hP hD hS ⟨rfl, rfl⟩ dX6_first_39
  refine lv_if_ne (tgt := 13) hx hb dX6_first_6 (by decide) (fun c_3 => ?_) (fun c_3 => ?_)
  · have hrun := mif_p (bz_nz c_3) hrun
    refine lv_iload_n hx hb dX6_first_13 rfl (lv_at hl 2 rfl) ?_
    refine lv_iconst (v := (1 : Int32)) hx hb dX6_first_14 (by decide) ?_
    refine lv_bipush (v := (99 : Int32)) hx hb dX6_first_15 (by decide) ?_
    obtain ⟨r_34, hc_33, hrun⟩ := mob_s rfl hrun
    refine cRS (ws := []) (As := [.int p2, .int (1 : Int32), .int (99 : Int32)]) ⟨hx, hb, hml, hown, hts⟩ hOK hz hS zP0 (mtX6_isIn l D Z hOK _ _ _ _ hc_33) (kX6_isIn hts q1981 rfl rfl ⟨Nat.le_of_ble_eq_true rfl, Nat.le_of_ble_eq_true rfl⟩) rfl hl.1 rfl (lv_room (Nat.le_of_ble_eq_true rfl)) ⟨Nat.le_of_ble_eq_true rfl, Nat.le_of_ble_eq_true rfl⟩ dX6_first_17 ?_
    refine lv_if_ne (tgt := 27) hx hb dX6_first_20 (by decide) (fun c_35 => ?_) (fun c_35 => ?_)
    · have hrun := mif_p (bz_nz c_35) hrun
      refine lv_iconst (v := (0 : Int32)) hx hb dX6_first_27 (by decide) ?_
      exact hj_4 (0 : Int32) _ _ hP hD hS ls (lv_sub hl [0, 1, 2] rfl) hrun
    have hrun := mif_n (bz_z c_35) hrun
    refine lv_iconst (v := (2 : Int32)) hx hb dX6_first_23 (by decide) ?_
    refine lv_goto (tgt := 28) hx hb dX6_first_24 (by decide) ?_
    exact hj_4 (2 : Int32) _ _ hP hD hS ls (lv_sub hl [0, 1, 2] rfl) hrun
  have hrun := mif_n (bz_z c_3) hrun
  refine lv_iconst (v := (1 : Int32)) hx hb dX6_first_9 (by decide) ?_
  refine lv_goto (tgt := 28) hx hb dX6_first_10 (by decide) ?_
  exact hj_4 (1 : Int32) _ _ hP hD hS ls (lv_sub hl [0, 1, 2] rfl) hrun
def rX6_spread : Room := { frames := 40, cells := 0, slots := 0, locals := 1080 }
noncomputable def fX6_spread_L52 (t_12 : Tw) (K_18 : Int32 → Int32 → Bool → Option (Int32 × Tw)) : Nat → Int32 → Int32 → Bool → Int32 → Option (Int32 × Tw)
  | 0, _, _, _, _ => none
  | n + 1, x3_23, x4_24, x5_25, x6_26 =>
    if ((tw_m t_12) 3) ≤ x6_26 then
      K_18 x3_23 x4_24 x5_25
    else
      mob (fX6_isHere t_12 x6_26) fun r_29 =>
      if r_29 = true then
        mob (fX6_of t_12 x6_26 (2 : Int32)) fun r_32 =>
        mob (fX6_lesser x3_23 r_32) fun r_34 =>
        mob (fX6_of t_12 x6_26 (2 : Int32)) fun r_36 =>
        mob (fX6_greater x4_24 r_36) fun r_38 =>
        fX6_spread_L52 t_12 K_18 n r_34 r_38 true (x6_26 + (1 : Int32))
      else
        fX6_spread_L52 t_12 K_18 n x3_23 x4_24 x5_25 (x6_26 + (1 : Int32))
noncomputable def fX6_spread (t : Tw) (p1 : Int32) : Option (Int32 × Tw) :=
  mob (fX6_isIn p1 (0 : Int32) (400 : Int32)) fun r_2 =>
  mjn (fun (y_5 : Bool) =>
  mlt (tw_s_thrown t (bz y_5)) fun t_7 =>
  if (tw_thrown t_7) ≤ (0 : Int32) then
    mob (fX6_putsAside t_7) fun t_10 =>
    mo2 (fX6_goes t_10 p1 false) fun r_13 t_12 =>
    mjn (fun (x3_15 : Int32) (x4_16 : Int32) (x5_17 : Bool) =>
    mob (fX6_comesBack t_12) fun t_20 =>
    if x5_17 = true then
      some ((x4_16 - x3_15), t_20)
    else
      some ((0 : Int32), t_20)) fun K_18 =>
    fX6_spread_L52 t_12 K_18 mFU (99 : Int32) (0 : Int32) false (0 : Int32)
  else
    some ((0 : Int32), t_7)) fun K_6 =>
  if r_2 = true then
    K_6 false
  else
    K_6 true
theorem kX6_spread {R : Room} {s : State} {args : Array Value} {own : String} {idx mc ms : Nat} {rm : Room} (hts : ∀ w ∈ lw_all, w.before args s = true) (hl : Cond.methodLink own idx yX6_spread ∈ lw_all) (hrc : rm.cells = mc) (hrs : rm.slots = ms) (hR : rm.frames + 1 ≤ R.frames ∧ 8 + (7 + 11) + rm.locals ≤ R.locals) : CallW R s args own RX6 idx yX6_spread cX6_spread 7 (some .int) (ws_ yX6_spread cX6_spread 7 (some .int)) rm mc ms 1 :=
  cwV 1 hts (lw_V hl q2436 q2437 q115 q2438) rfl hrc hrs (by decide +kernel) hR
set_option maxHeartbeats 4000000 in
set_option maxRecDepth 100000 in
theorem mtX6_spread (l : Launch) (D : va_G) (k : Nat → ClassId) (a : Nat → Nat) (Z : zZ) (hOK : zOK D zCl (zTys k) Z) {adK adV : Nat → Nat} (hStr : zStr Z adK adV) (t : Tw) (p1 : Int32) (r : Int32) (tt : Tw) (hrun : fX6_spread t p1 = some (r, tt)) :
    CtW l yX6_spread cX6_spread 7 (some .int) rX6_spread Z D zCl (cT k a t) [.ref (a 0), .int p1] (fun r' w' => r' = (some (.int r)) ∧ w' = cT k a tt) 0 0 := by
  refine CtW.of (by decide) (Nat.le_of_ble_eq_true rfl) ?_
  intro p e s m args below meth c A hE hA hP hD hS hz ls hl
  obtain ⟨hx, hb, hr, hml, hown, hts, hlocks, hname⟩ := hE
  have hown : s.vm.findClass RX6 = some m.cls := hown
  have hK := hOK.1 _ _ _ hz
  have hl : lv_has ls 7 [(0, .ref (a 0)), (1, .int p1)] := hl
  unfold fX6_spread at hrun
  refine lv_aload_n hx hb dX6_spread_0 rfl (lv_at hl 0 rfl) ?_
  refine lv_iload_n hx hb dX6_spread_1 rfl (lv_at hl 1 rfl) ?_
  refine lv_iconst (v := (0 : Int32)) hx hb dX6_spread_2 (by decide) ?_
  refine lv_sipush (v := (400 : Int32)) hx hb dX6_spread_3 (by decide) ?_
  obtain ⟨r_2, hc_1, hrun⟩ := mob_s rfl hrun
  refine cRS (ws := []) (As := [.int p1, .int (0 : Int32), .int (400 : Int32)]) ⟨hx, hb, hml, hown, hts⟩ hOK hz hS zP0 (mtX6_isIn l D Z hOK _ _ _ _ hc_1) (kX6_isIn hts q1981 rfl rfl ⟨Nat.le_of_ble_eq_true rfl, Nat.le_of_ble_eq_true rfl⟩) rfl hl.1 rfl (lv_room (Nat.le_of_ble_eq_true rfl)) ⟨Nat.le_of_ble_eq_true rfl, Nat.le_of_ble_eq_true rfl⟩ dX6_spread_6 ?_
  obtain ⟨K_6, hK_6, hrun⟩ := mjn_s hrun
  have hj_4 : ∀ (y_5 : Bool), ∀ (H : Heap) (locs : List Loc), va_P D zCl (cT k a t) H → va_D A (cT k a t) → va_S A s.heap H locs → ∀ ls : Array Slot, lv_has ls 7 [(0, .ref (a 0)), (1, .int p1)] → K_6 y_5 = some (r, tt) → W p l e rX6_spread s m args below meth c H locs 0 0 (MQ below (QWr (fun r' w' => r' = (some (.int r)) ∧ w' = cT k a tt) D zCl A) args s 0 0 A) (F0 m 17 ls [.int (bz y_5), .ref (a 0)]) := by
    intro y_5 H locs hP hD hS ls hl hrun
    rw [hK_6] at hrun
    refine va_put (ci := 0) (v := .int (bz y_5)) (ty := tyX6 0) (C := RX6) (T := TX6) (N := 22) hx hb hts in_X6 tyX6 tyX6_ok nmX6 hown hK hP hD hS 0 rfl rfl 0 (by decide) (hts _ q1902) (fun _ h9 => h9) rfl (tyX6_ok 0 (by decide)) rfl rfl (Nat.le_of_ble_eq_true rfl) dX6_spread_17 (fun H locs hP hD hS => ?_)
    have hP : va_P D zCl (cT k a (tw_s_thrown t (bz y_5))) H := hP
    have hD : va_D A (cT k a (tw_s_thrown t (bz y_5))) := hD
    obtain ⟨t_7, et_7⟩ : ∃ z : Tw, z = (tw_s_thrown t (bz y_5)) := ⟨_, rfl⟩
    rw [← et_7] at hP hD
    have hrun := mlt_s hrun t_7 et_7
    refine lv_aload_n hx hb dX6_spread_20 rfl (lv_at hl 0 rfl) ?_
    refine va_get (ci := 0) (v := .int (tw_thrown t_7)) (C := RX6) (T := TX6) (N := 22) hx hb hts in_X6 hown hK hP 0 rfl rfl 0 (by decide) (hts _ q1902) (fun _ h9 => h9) rfl dX6_spread_21 ?_
    refine lv_if_le (tgt := 29) hx hb dX6_spread_24 (by decide) (fun c_8 => ?_) (fun c_8 => ?_)
    · have hrun := mif_p c_8 hrun
      refine lv_aload_n hx hb dX6_spread_29 rfl (lv_at hl 0 rfl) ?_
      obtain ⟨t_10, hc_9, hrun⟩ := mob_s rfl hrun
      refine cWV00 (As := []) (ci := 0) ⟨hx, hb, hml, hown, hts⟩ hOK hz hS hA hP hD (mtX6_putsAside l D k a Z hOK _ _ hc_9) (kX6_putsAside hts q1988 rfl rfl ⟨Nat.le_of_ble_eq_true rfl, Nat.le_of_ble_eq_true rfl⟩) 0 rfl rfl rfl hl.1 rfl (lv_room (Nat.le_of_ble_eq_true rfl)) ⟨Nat.le_of_ble_eq_true rfl, Nat.le_of_ble_eq_true rfl⟩ dX6_spread_30 (fun r_ w_ H locs hq hP hD hS => ?_)
      obtain ⟨rfl, rfl⟩ := hq
      refine lv_aload_n hx hb dX6_spread_33 rfl (lv_at hl 0 rfl) ?_
      refine lv_iload_n hx hb dX6_spread_34 rfl (lv_at hl 1 rfl) ?_
      refine lv_iconst (v := (0 : Int32)) hx hb dX6_spread_35 (by decide) ?_
      obtain ⟨r_13, t_12, hc_11, hrun⟩ := mo2_s rfl hrun
      refine cWV00 (As := [.int p1, .int (bz false)]) (ci := 0) ⟨hx, hb, hml, hown, hts⟩ hOK hz hS hA hP hD (mtX6_goes l D k a Z hOK hStr _ _ _ _ _ hc_11) (kX6_goes hts q2256 rfl rfl ⟨Nat.le_of_ble_eq_true rfl, Nat.le_of_ble_eq_true rfl⟩) 0 rfl rfl rfl hl.1 rfl (lv_room (Nat.le_of_ble_eq_true rfl)) ⟨Nat.le_of_ble_eq_true rfl, Nat.le_of_ble_eq_true rfl⟩ dX6_spread_36 (fun r_ w_ H locs hq hP hD hS => ?_)
      obtain ⟨rfl, rfl⟩ := hq
      refine lv_istore_n (lv' := [(2, .int r_13), (0, .ref (a 0)), (1, .int p1)]) hx hb dX6_spread_39 rfl hl (by decide) rfl (fun ls hl => ?_)
      refine lv_bipush (v := (99 : Int32)) hx hb dX6_spread_40 (by decide) ?_
      refine lv_istore_n (lv' := [(3, .int (99 : Int32)), (2, .int r_13), (0, .ref (a 0)), (1, .int p1)]) hx hb dX6_spread_42 rfl hl (by decide) rfl (fun ls hl => ?_)
      refine lv_iconst (v := (0 : Int32)) hx hb dX6_spread_43 (by decide) ?_
      refine lv_istore (lv' := [(4, .int (0 : Int32)), (3, .int (99 : Int32)), (2, .int r_13), (0, .ref (a 0)), (1, .int p1)]) hx hb dX6_spread_44 hl (by decide) rfl (fun ls hl => ?_)
      refine lv_iconst (v := (0 : Int32)) hx hb dX6_spread_46 (by decide) ?_
      refine lv_istore (lv' := [(5, .int (0 : Int32)), (4, .int (0 : Int32)), (3, .int (99 : Int32)), (2, .int r_13), (0, .ref (a 0)), (1, .int p1)]) hx hb dX6_spread_47 hl (by decide) rfl (fun ls hl => ?_)
      refine lv_iconst (v := (0 : Int32)) hx hb dX6_spread_49 (by decide) ?_
      refine lv_istore (lv' := [(6, .int (0 : Int32)), (5, .int (0 : Int32)), (4, .int (0 : Int32)), (3, .int (99 : Int32)), (2, .int r_13), (0, .ref (a 0)), (1, .int p1)]) hx hb dX6_spread_50 hl (by decide) rfl (fun ls hl => ?_)
      obtain ⟨K_18, hK_18, hrun⟩ := mjn_s hrun
      have hj_14 : ∀ (x3_15 : Int32) (x4_16 : Int32) (x5_17 : Bool), ∀ (H : Heap) (locs : List Loc), va_P D zCl (cT k a t_12) H → va_D A (cT k a t_12) → va_S A s.heap H locs → ∀ ls : Array Slot, lv_has ls 7 [(0, .ref (a 0)), (3, .int x3_15), (4, .int x4_16), (5, .int (bz x5_17))] → K_18 x3_15 x4_16 x5_17 = some (r, tt) → W p l e rX6_spread s m args below meth c H locs 0 0 (MQ below (QWr (fun r' w' => r' = (some (.int r)) ∧ w' = cT k a tt) D zCl A) args s 0 0 A) (F0 m 110 ls []) := by
        intro x3_15 x4_16 x5_17 H locs hP hD hS ls hl hrun
        rw [hK_18] at hrun
        refine lv_aload_n hx hb dX6_spread_110 rfl (lv_at hl 0 rfl) ?_
        obtain ⟨t_20, hc_19, hrun⟩ := mob_s rfl hrun
        refine cWV00 (As := []) (ci := 0) ⟨hx, hb, hml, hown, hts⟩ hOK hz hS hA hP hD (mtX6_comesBack l D k a Z hOK _ _ hc_19) (kX6_comesBack hts q2116 rfl rfl ⟨Nat.le_of_ble_eq_true rfl, Nat.le_of_ble_eq_true rfl⟩) 0 rfl rfl rfl hl.1 rfl (lv_room (Nat.le_of_ble_eq_true rfl)) ⟨Nat.le_of_ble_eq_true rfl, Nat.le_of_ble_eq_true rfl⟩ dX6_spread_111 (fun r_ w_ H locs hq hP hD hS => ?_)
        obtain ⟨rfl, rfl⟩ := hq
        refine lv_iload hx hb dX6_spread_114 (lv_at hl 3 rfl) ?_
        refine lv_if_eq (tgt := 126) hx hb dX6_spread_116 (by decide) (fun c_21 => ?_) (fun c_21 => ?_)
        · have hrun := mif_n (bz_z c_21) hrun
          refine lv_iconst (v := (0 : Int32)) hx hb dX6_spread_126 (by decide) ?_
          cases hrun
          exact retW_i hx hb hr hlocks hP hD hS ⟨rfl, rfl⟩ dX6_spread_127
        have hrun := mif_p (bz_nz c_21) hrun
        refine lv_iload hx hb dX6_spread_119 (lv_at hl 2 rfl) ?_
        refine lv_iload_n hx hb dX6_spread_121 rfl (lv_at hl 1 rfl) ?_
        refine lv_isub hx hb dX6_spread_122 ?_
        refine lv_goto (tgt := 127) hx hb dX6_spread_123 (by decide) ?_
        cases hrun
        exact retW_i hx hb hr hlocks hP hD hS ⟨rfl, rfl⟩ dX6_spread_127
      have hL_22 : ∀ n : Nat, ∀ (x3_23 : Int32) (x4_24 : Int32) (x5_25 : Bool) (x6_26 : Int32), ∀ (H : Heap) (locs : List Loc), va_P D zCl (cT k a t_12) H → va_D A (cT k a t_12) → va_S A s.heap H locs → ∀ ls : Array Slot, lv_has ls 7 [(0, .ref (a 0)), (3, .int x3_23), (4, .int x4_24), (5, .int (bz x5_25)), (6, .int x6_26)] → fX6_spread_L52 t_12 K_18 n x3_23 x4_24 x5_25 x6_26 = some (r, tt) → W p l e rX6_spread s m args below meth c H locs 0 0 (MQ below (QWr (fun r' w' => r' = (some (.int r)) ∧ w' = cT k a tt) D zCl A) args s 0 0 A) (F0 m 52 ls []) := by
        intro n
        induction n with
        | zero =>
          intro x3_23 x4_24 x5_25 x6_26 H locs hP hD hS ls hl hrun
          exact nomatch hrun
        | succ n ih =>
          intro x3_23 x4_24 x5_25 x6_26 H locs hP hD hS ls hl hrun
          rw [fX6_spread_L52.eq_2] at hrun
          refine lv_iload hx hb dX6_spread_52 (lv_at hl 4 rfl) ?_
          refine lv_aload_n hx hb dX6_spread_54 rfl (lv_at hl 0 rfl) ?_
          refine va_get (ci := 0) (v := .ref (a 1)) (C := RX6) (T := TX6) (N := 22) hx hb hts in_X6 hown hK hP 0 rfl rfl 1 (by decide) (hts _ q1903) (fun _ h9 => h9) rfl dX6_spread_55 ?_
          refine lv_iconst (v := (3 : Int32)) hx hb dX6_spread_58 (by decide) ?_
          refine va_ialdk (k := 3) hx hb hK hP 1 0 rfl rfl rfl (show ¬ _ from by decide) dX6_spread_59 ?_
          refine lv_icmp_ge (tgt := 110) hx hb dX6_spread_60 (by decide) (fun c_27 => ?_) (fun c_27 => ?_)
          · have hrun := mif_p c_27 hrun
            exact hj_14 x3_23 x4_24 x5_25 _ _ hP hD hS ls (lv_sub hl [0, 1, 2, 3] rfl) hrun
          have hrun := mif_n c_27 hrun
          refine lv_aload_n hx hb dX6_spread_63 rfl (lv_at hl 0 rfl) ?_
          refine lv_iload hx hb dX6_spread_64 (lv_at hl 4 rfl) ?_
          obtain ⟨r_29, hc_28, hrun⟩ := mob_s rfl hrun
          refine cRV (As := [.int x6_26]) (ci := 0) ⟨hx, hb, hml, hown, hts⟩ hOK hz hS hP (mtX6_isHere l D k a Z hOK _ _ _ hc_28) (kX6_isHere hts q2155 rfl rfl ⟨Nat.le_of_ble_eq_true rfl, Nat.le_of_ble_eq_true rfl⟩) 0 rfl rfl rfl hl.1 rfl (lv_room (Nat.le_of_ble_eq_true rfl)) ⟨Nat.le_of_ble_eq_true rfl, Nat.le_of_ble_eq_true rfl⟩ dX6_spread_66 ?_
          refine lv_if_ne (tgt := 75) hx hb dX6_spread_69 (by decide) (fun c_30 => ?_) (fun c_30 => ?_)
          · have hrun := mif_p (bz_nz c_30) hrun
            refine lv_iconst (v := (1 : Int32)) hx hb dX6_spread_75 (by decide) ?_
            refine lv_istore (lv' := [(5, .int (1 : Int32)), (0, .ref (a 0)), (3, .int x3_23), (4, .int x4_24), (6, .int x6_26)]) hx hb dX6_spread_76 hl (by decide) rfl (fun ls hl => ?_)
            refine lv_iload_n hx hb dX6_spread_78 rfl (lv_at hl 2 rfl) ?_
            refine lv_aload_n hx hb dX6_spread_79 rfl (lv_at hl 1 rfl) ?_
            refine lv_iload hx hb dX6_spread_80 (lv_at hl 4 rfl) ?_
            refine lv_iconst (v := (2 : Int32)) hx hb dX6_spread_82 (by decide) ?_
            obtain ⟨r_32, hc_31, hrun⟩ := mob_s rfl hrun
            refine cRV (As := [.int x6_26, .int (2 : Int32)]) (ci := 0) ⟨hx, hb, hml, hown, hts⟩ hOK hz hS hP (mtX6_of l D k a Z hOK _ _ _ _ hc_31) (kX6_of hts q2136 rfl rfl ⟨Nat.le_of_ble_eq_true rfl, Nat.le_of_ble_eq_true rfl⟩) 0 rfl rfl rfl hl.1 rfl (lv_room (Nat.le_of_ble_eq_true rfl)) ⟨Nat.le_of_ble_eq_true rfl, Nat.le_of_ble_eq_true rfl⟩ dX6_spread_83 ?_
            obtain ⟨r_34, hc_33, hrun⟩ := mob_s rfl hrun
            refine cRS (ws := []) (As := [.int x3_23, .int r_32]) ⟨hx, hb, hml, hown, hts⟩ hOK hz hS zP0 (mtX6_lesser l D Z hOK _ _ _ hc_33) (kX6_lesser hts q2245 rfl rfl ⟨Nat.le_of_ble_eq_true rfl, Nat.le_of_ble_eq_true rfl⟩) rfl hl.1 rfl (lv_room (Nat.le_of_ble_eq_true rfl)) ⟨Nat.le_of_ble_eq_true rfl, Nat.le_of_ble_eq_true rfl⟩ dX6_spread_86 ?_
            refine lv_istore_n (lv' := [(3, .int r_34), (5, .int (1 : Int32)), (0, .ref (a 0)), (4, .int x4_24), (6, .int x6_26)]) hx hb dX6_spread_89 rfl hl (by decide) rfl (fun ls hl => ?_)
            refine lv_iload hx hb dX6_spread_90 (lv_at hl 3 rfl) ?_
            refine lv_aload_n hx hb dX6_spread_92 rfl (lv_at hl 2 rfl) ?_
            refine lv_iload hx hb dX6_spread_93 (lv_at hl 4 rfl) ?_
            refine lv_iconst (v := (2 : Int32)) hx hb dX6_spread_95 (by decide) ?_
            obtain ⟨r_36, hc_35, hrun⟩ := mob_s rfl hrun
            refine cRV (As := [.int x6_26, .int (2 : Int32)]) (ci := 0) ⟨hx, hb, hml, hown, hts⟩ hOK hz hS hP (mtX6_of l D k a Z hOK _ _ _ _ hc_35) (kX6_of hts q2136 rfl rfl ⟨Nat.le_of_ble_eq_true rfl, Nat.le_of_ble_eq_true rfl⟩) 0 rfl rfl rfl hl.1 rfl (lv_room (Nat.le_of_ble_eq_true rfl)) ⟨Nat.le_of_ble_eq_true rfl, Nat.le_of_ble_eq_true rfl⟩ dX6_spread_96 ?_
            obtain ⟨r_38, hc_37, hrun⟩ := mob_s rfl hrun
            refine cRS (ws := []) (As := [.int x4_24, .int r_36]) ⟨hx, hb, hml, hown, hts⟩ hOK hz hS zP0 (mtX6_greater l D Z hOK _ _ _ hc_37) (kX6_greater hts q2260 rfl rfl ⟨Nat.le_of_ble_eq_true rfl, Nat.le_of_ble_eq_true rfl⟩) rfl hl.1 rfl (lv_room (Nat.le_of_ble_eq_true rfl)) ⟨Nat.le_of_ble_eq_true rfl, Nat.le_of_ble_eq_true rfl⟩ dX6_spread_99 ?_
            refine lv_istore (lv' := [(4, .int r_38), (3, .int r_34), (5, .int (1 : Int32)), (0, .ref (a 0)), (6, .int x6_26)]) hx hb dX6_spread_102 hl (by decide) rfl (fun ls hl => ?_)
            refine lv_iinc (v := (x6_26 + (1 : Int32))) (lv' := [(6, .int (x6_26 + (1 : Int32))), (4, .int r_38), (3, .int r_34), (5, .int (1 : Int32)), (0, .ref (a 0))]) hx hb dX6_spread_104 hl (k := 4) rfl rfl (by decide) rfl (fun ls hl => ?_)
            refine lv_goto (tgt := 52) hx hb dX6_spread_107 (by decide) ?_
            exact ih r_34 r_38 true (x6_26 + (1 : Int32)) _ _ hP hD hS ls (lv_sub hl [4, 2, 1, 3, 0] rfl) hrun
          have hrun := mif_n (bz_z c_30) hrun
          refine lv_goto (tgt := 104) hx hb dX6_spread_72 (by decide) ?_
          refine lv_iinc (v := (x6_26 + (1 : Int32))) (lv' := [(6, .int (x6_26 + (1 : Int32))), (0, .ref (a 0)), (3, .int x3_23), (4, .int x4_24), (5, .int (bz x5_25))]) hx hb dX6_spread_104 hl (k := 4) rfl rfl (by decide) rfl (fun ls hl => ?_)
          refine lv_goto (tgt := 52) hx hb dX6_spread_107 (by decide) ?_
          exact ih x3_23 x4_24 x5_25 (x6_26 + (1 : Int32)) _ _ hP hD hS ls (lv_sub hl [1, 2, 3, 4, 0] rfl) hrun
      exact hL_22 mFU (99 : Int32) (0 : Int32) false (0 : Int32) _ _ hP hD hS ls (lv_sub hl [5, 3, 2, 1, 0] rfl) hrun
    have hrun := mif_n c_8 hrun
    refine lv_iconst (v := (0 : Int32)) hx hb dX6_spread_27 (by decide) ?_
    cases hrun
    exact retW_i hx hb hr hlocks hP hD hS ⟨rfl, rfl⟩ dX6_spread_28
  refine lv_if_ne (tgt := 16) hx hb dX6_spread_9 (by decide) (fun c_3 => ?_) (fun c_3 => ?_)
  · have hrun := mif_p (bz_nz c_3) hrun
    refine lv_iconst (v := (0 : Int32)) hx hb dX6_spread_16 (by decide) ?_
    exact hj_4 false _ _ hP hD hS ls (lv_sub hl [0, 1] rfl) hrun
  have hrun := mif_n (bz_z c_3) hrun
  refine lv_iconst (v := (1 : Int32)) hx hb dX6_spread_12 (by decide) ?_
  refine lv_goto (tgt := 17) hx hb dX6_spread_13 (by decide) ?_
  exact hj_4 true _ _ hP hD hS ls (lv_sub hl [0, 1] rfl) hrun
def rX6_trial : Room := { frames := 40, cells := 0, slots := 0, locals := 1080 }
noncomputable def fX6_trial (t : Tw) (p1 : Int32) (p2 : Bool) : Option (Int32 × Tw) :=
  mob (fX6_isIn p1 (0 : Int32) (60 : Int32)) fun r_2 =>
  mjn (fun (y_5 : Bool) =>
  mlt (tw_s_thrown t (bz y_5)) fun t_7 =>
  if (tw_thrown t_7) ≤ (0 : Int32) then
    mob (fX6_putsAside t_7) fun t_10 =>
    mo2 (fX6_goes t_10 p1 true) fun r_13 t_12 =>
    mjn (fun (y_16 : Int32) =>
    mob (fX6_comesBack t_12) fun t_19 =>
    some (y_16, t_19)) fun K_17 =>
    if p2 = true then
      mob (fX6_holes t_12) fun r_21 =>
      K_17 r_21
    else
      K_17 r_13
  else
    some ((0 : Int32), t_7)) fun K_6 =>
  if r_2 = true then
    K_6 false
  else
    K_6 true
theorem kX6_trial {R : Room} {s : State} {args : Array Value} {own : String} {idx mc ms : Nat} {rm : Room} (hts : ∀ w ∈ lw_all, w.before args s = true) (hl : Cond.methodLink own idx yX6_trial ∈ lw_all) (hrc : rm.cells = mc) (hrs : rm.slots = ms) (hR : rm.frames + 1 ≤ R.frames ∧ 8 + (5 + 11) + rm.locals ≤ R.locals) : CallW R s args own RX6 idx yX6_trial cX6_trial 5 (some .int) (ws_ yX6_trial cX6_trial 5 (some .int)) rm mc ms 2 :=
  cwV 2 hts (lw_V hl q2444 q2445 q115 q2446) rfl hrc hrs (by decide +kernel) hR
set_option maxHeartbeats 4000000 in
set_option maxRecDepth 100000 in
theorem mtX6_trial (l : Launch) (D : va_G) (k : Nat → ClassId) (a : Nat → Nat) (Z : zZ) (hOK : zOK D zCl (zTys k) Z) {adK adV : Nat → Nat} (hStr : zStr Z adK adV) (t : Tw) (p1 : Int32) (p2 : Bool) (r : Int32) (tt : Tw) (hrun : fX6_trial t p1 p2 = some (r, tt)) :
    CtW l yX6_trial cX6_trial 5 (some .int) rX6_trial Z D zCl (cT k a t) [.ref (a 0), .int p1, .int (bz p2)] (fun r' w' => r' = (some (.int r)) ∧ w' = cT k a tt) 0 0 := by
  refine CtW.of (by decide) (Nat.le_of_ble_eq_true rfl) ?_
  intro p e s m args below meth c A hE hA hP hD hS hz ls hl
  obtain ⟨hx, hb, hr, hml, hown, hts, hlocks, hname⟩ := hE
  have hown : s.vm.findClass RX6 = some m.cls := hown
  have hK := hOK.1 _ _ _ hz
  have hl : lv_has ls 5 [(0, .ref (a 0)), (1, .int p1), (2, .int (bz p2))] := hl
  unfold fX6_trial at hrun
  refine lv_aload_n hx hb dX6_trial_0 rfl (lv_at hl 0 rfl) ?_
  refine lv_iload_n hx hb dX6_trial_1 rfl (lv_at hl 1 rfl) ?_
  refine lv_iconst (v := (0 : Int32)) hx hb dX6_trial_2 (by decide) ?_
  refine lv_bipush (v := (60 : Int32)) hx hb dX6_trial_3 (by decide) ?_
  obtain ⟨r_2, hc_1, hrun⟩ := mob_s rfl hrun
  refine cRS (ws := []) (As := [.int p1, .int (0 : Int32), .int (60 : Int32)]) ⟨hx, hb, hml, hown, hts⟩ hOK hz hS zP0 (mtX6_isIn l D Z hOK _ _ _ _ hc_1) (kX6_isIn hts q1981 rfl rfl ⟨Nat.le_of_ble_eq_true rfl, Nat.le_of_ble_eq_true rfl⟩) rfl hl.1 rfl (lv_room (Nat.le_of_ble_eq_true rfl)) ⟨Nat.le_of_ble_eq_true rfl, Nat.le_of_ble_eq_true rfl⟩ dX6_trial_5 ?_
  obtain ⟨K_6, hK_6, hrun⟩ := mjn_s hrun
  have hj_4 : ∀ (y_5 : Bool), ∀ (H : Heap) (locs : List Loc), va_P D zCl (cT k a t) H → va_D A (cT k a t) → va_S A s.heap H locs → ∀ ls : Array Slot, lv_has ls 5 [(0, .ref (a 0)), (1, .int p1), (2, .int (bz p2))] → K_6 y_5 = some (r, tt) → W p l e rX6_trial s m args below meth c H locs 0 0 (MQ below (QWr (fun r' w' => r' = (some (.int r)) ∧ w' = cT k a tt) D zCl A) args s 0 0 A) (F0 m 16 ls [.int (bz y_5), .ref (a 0)]) := by
    intro y_5 H locs hP hD hS ls hl hrun
    rw [hK_6] at hrun
    refine va_put (ci := 0) (v := .int (bz y_5)) (ty := tyX6 0) (C := RX6) (T := TX6) (N := 22) hx hb hts in_X6 tyX6 tyX6_ok nmX6 hown hK hP hD hS 0 rfl rfl 0 (by decide) (hts _ q1902) (fun _ h9 => h9) rfl (tyX6_ok 0 (by decide)) rfl rfl (Nat.le_of_ble_eq_true rfl) dX6_trial_16 (fun H locs hP hD hS => ?_)
    have hP : va_P D zCl (cT k a (tw_s_thrown t (bz y_5))) H := hP
    have hD : va_D A (cT k a (tw_s_thrown t (bz y_5))) := hD
    obtain ⟨t_7, et_7⟩ : ∃ z : Tw, z = (tw_s_thrown t (bz y_5)) := ⟨_, rfl⟩
    rw [← et_7] at hP hD
    have hrun := mlt_s hrun t_7 et_7
    refine lv_aload_n hx hb dX6_trial_19 rfl (lv_at hl 0 rfl) ?_
    refine va_get (ci := 0) (v := .int (tw_thrown t_7)) (C := RX6) (T := TX6) (N := 22) hx hb hts in_X6 hown hK hP 0 rfl rfl 0 (by decide) (hts _ q1902) (fun _ h9 => h9) rfl dX6_trial_20 ?_
    refine lv_if_le (tgt := 28) hx hb dX6_trial_23 (by decide) (fun c_8 => ?_) (fun c_8 => ?_)
    · have hrun := mif_p c_8 hrun
      refine lv_aload_n hx hb dX6_trial_28 rfl (lv_at hl 0 rfl) ?_
      obtain ⟨t_10, hc_9, hrun⟩ := mob_s rfl hrun
      refine cWV00 (As := []) (ci := 0) ⟨hx, hb, hml, hown, hts⟩ hOK hz hS hA hP hD (mtX6_putsAside l D k a Z hOK _ _ hc_9) (kX6_putsAside hts q1988 rfl rfl ⟨Nat.le_of_ble_eq_true rfl, Nat.le_of_ble_eq_true rfl⟩) 0 rfl rfl rfl hl.1 rfl (lv_room (Nat.le_of_ble_eq_true rfl)) ⟨Nat.le_of_ble_eq_true rfl, Nat.le_of_ble_eq_true rfl⟩ dX6_trial_29 (fun r_ w_ H locs hq hP hD hS => ?_)
      obtain ⟨rfl, rfl⟩ := hq
      refine lv_aload_n hx hb dX6_trial_32 rfl (lv_at hl 0 rfl) ?_
      refine lv_iload_n hx hb dX6_trial_33 rfl (lv_at hl 1 rfl) ?_
      refine lv_iconst (v := (1 : Int32)) hx hb dX6_trial_34 (by decide) ?_
      obtain ⟨r_13, t_12, hc_11, hrun⟩ := mo2_s rfl hrun
      refine cWV00 (As := [.int p1, .int (bz true)]) (ci := 0) ⟨hx, hb, hml, hown, hts⟩ hOK hz hS hA hP hD (mtX6_goes l D k a Z hOK hStr _ _ _ _ _ hc_11) (kX6_goes hts q2256 rfl rfl ⟨Nat.le_of_ble_eq_true rfl, Nat.le_of_ble_eq_true rfl⟩) 0 rfl rfl rfl hl.1 rfl (lv_room (Nat.le_of_ble_eq_true rfl)) ⟨Nat.le_of_ble_eq_true rfl, Nat.le_of_ble_eq_true rfl⟩ dX6_trial_35 (fun r_ w_ H locs hq hP hD hS => ?_)
      obtain ⟨rfl, rfl⟩ := hq
      refine lv_istore_n (lv' := [(3, .int r_13), (0, .ref (a 0)), (1, .int p1), (2, .int (bz p2))]) hx hb dX6_trial_38 rfl hl (by decide) rfl (fun ls hl => ?_)
      refine lv_iload_n hx hb dX6_trial_39 rfl (lv_at hl 3 rfl) ?_
      obtain ⟨K_17, hK_17, hrun⟩ := mjn_s hrun
      have hj_15 : ∀ (y_16 : Int32), ∀ (H : Heap) (locs : List Loc), va_P D zCl (cT k a t_12) H → va_D A (cT k a t_12) → va_S A s.heap H locs → ∀ ls : Array Slot, lv_has ls 5 [(0, .ref (a 0))] → K_17 y_16 = some (r, tt) → W p l e rX6_trial s m args below meth c H locs 0 0 (MQ below (QWr (fun r' w' => r' = (some (.int r)) ∧ w' = cT k a tt) D zCl A) args s 0 0 A) (F0 m 51 ls [.int y_16]) := by
        intro y_16 H locs hP hD hS ls hl hrun
        rw [hK_17] at hrun
        refine lv_istore (lv' := [(4, .int y_16), (0, .ref (a 0))]) hx hb dX6_trial_51 hl (by decide) rfl (fun ls hl => ?_)
        refine lv_aload_n hx hb dX6_trial_53 rfl (lv_at hl 1 rfl) ?_
        obtain ⟨t_19, hc_18, hrun⟩ := mob_s rfl hrun
        refine cWV00 (As := []) (ci := 0) ⟨hx, hb, hml, hown, hts⟩ hOK hz hS hA hP hD (mtX6_comesBack l D k a Z hOK _ _ hc_18) (kX6_comesBack hts q2116 rfl rfl ⟨Nat.le_of_ble_eq_true rfl, Nat.le_of_ble_eq_true rfl⟩) 0 rfl rfl rfl hl.1 rfl (lv_room (Nat.le_of_ble_eq_true rfl)) ⟨Nat.le_of_ble_eq_true rfl, Nat.le_of_ble_eq_true rfl⟩ dX6_trial_54 (fun r_ w_ H locs hq hP hD hS => ?_)
        obtain ⟨rfl, rfl⟩ := hq
        refine lv_iload hx hb dX6_trial_57 (lv_at hl 0 rfl) ?_
        cases hrun
        exact retW_i hx hb hr hlocks hP hD hS ⟨rfl, rfl⟩ dX6_trial_59
      refine lv_if_eq (tgt := 50) hx hb dX6_trial_40 (by decide) (fun c_14 => ?_) (fun c_14 => ?_)
      · have hrun := mif_n (bz_z c_14) hrun
        refine lv_iload_n hx hb dX6_trial_50 rfl (lv_at hl 0 rfl) ?_
        exact hj_15 r_13 _ _ hP hD hS ls (lv_sub hl [1] rfl) hrun
      have hrun := mif_p (bz_nz c_14) hrun
      refine lv_aload_n hx hb dX6_trial_43 rfl (lv_at hl 1 rfl) ?_
      obtain ⟨r_21, hc_20, hrun⟩ := mob_s rfl hrun
      refine cRV (As := []) (ci := 0) ⟨hx, hb, hml, hown, hts⟩ hOK hz hS hP (mtX6_holes l D k a Z hOK _ _ hc_20) (kX6_holes hts q2447 rfl rfl ⟨Nat.le_of_ble_eq_true rfl, Nat.le_of_ble_eq_true rfl⟩) 0 rfl rfl rfl hl.1 rfl (lv_room (Nat.le_of_ble_eq_true rfl)) ⟨Nat.le_of_ble_eq_true rfl, Nat.le_of_ble_eq_true rfl⟩ dX6_trial_44 ?_
      refine lv_goto (tgt := 51) hx hb dX6_trial_47 (by decide) ?_
      exact hj_15 r_21 _ _ hP hD hS ls (lv_sub hl [1] rfl) hrun
    have hrun := mif_n c_8 hrun
    refine lv_iconst (v := (0 : Int32)) hx hb dX6_trial_26 (by decide) ?_
    cases hrun
    exact retW_i hx hb hr hlocks hP hD hS ⟨rfl, rfl⟩ dX6_trial_27
  refine lv_if_ne (tgt := 15) hx hb dX6_trial_8 (by decide) (fun c_3 => ?_) (fun c_3 => ?_)
  · have hrun := mif_p (bz_nz c_3) hrun
    refine lv_iconst (v := (0 : Int32)) hx hb dX6_trial_15 (by decide) ?_
    exact hj_4 false _ _ hP hD hS ls (lv_sub hl [0, 1, 2] rfl) hrun
  have hrun := mif_n (bz_z c_3) hrun
  refine lv_iconst (v := (1 : Int32)) hx hb dX6_trial_11 (by decide) ?_
  refine lv_goto (tgt := 16) hx hb dX6_trial_12 (by decide) ?_
  exact hj_4 true _ _ hP hD hS ls (lv_sub hl [0, 1, 2] rfl) hrun
