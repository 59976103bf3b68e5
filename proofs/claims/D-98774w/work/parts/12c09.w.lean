/-! walks: X5_best, X5_is, X5_isNone, X5_roomOf -/
def rX5_best : Room := { frames := 2, cells := 0, slots := 0, locals := 45 }
noncomputable def fX5_best_L35 (K_5 : Int32 → Option (Int32)) (slo : Lo) (sh : Kp) (sw : Wd) (p1 : Int32) (p2 : Int32) : Nat → Int32 → Int32 → Option (Int32)
  | 0, _, _ => none
  | n + 1, x3_7, x4_8 =>
    if (8 : Int32) ≤ x4_8 then
      K_5 x3_7
    else
      mob (fX5_can slo sh sw p1 p2 x4_8) fun r_11 =>
      if r_11 = true then
        mob (fX5_by slo sh sw p1 p2 x4_8) fun r_14 =>
        fX5_best_L35 K_5 slo sh sw p1 p2 n (zmn x3_7 r_14) (x4_8 + (1 : Int32))
      else
        fX5_best_L35 K_5 slo sh sw p1 p2 n x3_7 (x4_8 + (1 : Int32))
noncomputable def fX5_best (slo : Lo) (sh : Kp) (sw : Wd) (p1 : Int32) (p2 : Int32) : Option (Int32) :=
  mck p1 8 <|
  if ((wd_here sw) (Int32.toNatClampNeg p1)) = true then
    mjn (fun (x3_4 : Int32) =>
    some (zmn (1000000 : Int32) x3_4)) fun K_5 =>
    fX5_best_L35 K_5 slo sh sw p1 p2 mFU (1000000 : Int32) (0 : Int32)
  else
    mob (fX5_at slo (p1 + (1 : Int32)) p2) fun r_17 =>
    mck r_17 2304 <|
    some ((lo_least slo) (Int32.toNatClampNeg r_17))
theorem kX5_best {R : Room} {s : State} {args : Array Value} {own : String} {idx mc ms : Nat} {rm : Room} (hts : ∀ w ∈ lw_all, w.before args s = true) (hl : Cond.methodLink own idx yX5_best ∈ lw_all) (hrc : rm.cells = mc) (hrs : rm.slots = ms) (hR : rm.frames + 1 ≤ R.frames ∧ 8 + (5 + 11) + rm.locals ≤ R.locals) : CallW R s args own RX5 idx yX5_best cX5_best 5 (some .int) (ws_ yX5_best cX5_best 5 (some .int)) rm mc ms 2 :=
  cwV 2 hts (lw_V hl q660 qs8 q114 q661) rfl hrc hrs (by decide +kernel) hR
set_option maxHeartbeats 4000000 in
set_option maxRecDepth 100000 in
theorem mtX5_best (l : Launch) (D : va_G) (k : Nat → ClassId) (ah : Nat → Nat) (alo : Nat → Nat) (aw : Nat → Nat) (adr : Nat → Nat) (aim : Nat → Nat) (ard : Nat → Nat) (asc : Nat → Nat) (ath : Nat → Nat) (awl : Nat → Nat) (atr : Nat → Nat) (Z : zZ) (hOK : zOK D zCl (zTys k) Z) (slo : Lo) (sh : Kp) (sw : Wd) (p1 : Int32) (p2 : Int32) (r : Int32) (hrun : fX5_best slo sh sw p1 p2 = some r) :
    CtR l yX5_best cX5_best 5 (some .int) rX5_best Z D zCl ((cL k alo (ah 0) slo) ++ ((cH k ah aw adr aim ard asc ath awl alo atr sh) ++ (cW k aw sw))) [.ref (alo 0), .int p1, .int p2] (some (.int r)) := by
  refine CtR.of (by decide) (Nat.le_of_ble_eq_true rfl) ?_
  intro p e s m args below meth c hE hP hz ls hl
  obtain ⟨hx, hb, hr, hml, hown, hts, hlocks, hname⟩ := hE
  have hown : s.vm.findClass RX5 = some m.cls := hown
  have hK := hOK.1 _ _ _ hz
  have hN := hOK.2.1 _ _ _ hz
  have hl : lv_has ls 5 [(0, .ref (alo 0)), (1, .int p1), (2, .int p2)] := hl
  unfold fX5_best at hrun
  refine lv_aload_n hx hb dX5_best_0 rfl (lv_at hl 0 rfl) ?_
  refine va_get (ci := 5) (v := .ref (ah 0)) (C := RX5) (T := TX5) (N := 2) hx hb hts in_X5 hown hK hP 0 rfl rfl 1 (by decide) (hts _ q364) (fun _ h9 => h9) rfl dX5_best_1 ?_
  refine va_getN (ci := 1) (v := .ref (aw 0)) (C := RX1) (T := TX1) (N := 10) hx hb hts in_X1 hown hK hP 2 rfl rfl 0 (by decide) (va_Nw.use rfl (hN _ (zN_of q371 rfl))) (fun _ h9 => h9) rfl dX5_best_4 ?_
  refine va_getN (ci := 2) (v := .ref (aw 6)) (C := RX2) (T := TX2) (N := 21) hx hb hts in_X2 hown hK hP 3 rfl rfl 17 (by decide) (va_Nw.use rfl (hN _ (zN_of q201 rfl))) (fun _ h9 => h9) rfl dX5_best_7 ?_
  refine lv_iload_n hx hb dX5_best_10 rfl (lv_at hl 1 rfl) ?_
  obtain ⟨hb_1, hrun⟩ := mck_s rfl hrun
  refine va_zald hx hb hK hP 9 1 rfl rfl hb_1 dX5_best_11 ?_
  refine lv_if_ne (tgt := 29) hx hb dX5_best_12 (by decide) (fun c_2 => ?_) (fun c_2 => ?_)
  · have hrun := mif_p (bz_nz c_2) hrun
    refine lv_ldc (v := (1000000 : Int32)) hx hb hown (hts _ q662) dX5_best_29 ?_
    refine lv_istore_n (lv' := [(3, .int (1000000 : Int32)), (0, .ref (alo 0)), (1, .int p1), (2, .int p2)]) hx hb dX5_best_31 rfl hl (by decide) rfl (fun ls hl => ?_)
    refine lv_iconst (v := (0 : Int32)) hx hb dX5_best_32 (by decide) ?_
    refine lv_istore (lv' := [(4, .int (0 : Int32)), (3, .int (1000000 : Int32)), (0, .ref (alo 0)), (1, .int p1), (2, .int p2)]) hx hb dX5_best_33 hl (by decide) rfl (fun ls hl => ?_)
    obtain ⟨K_5, hK_5, hrun⟩ := mjn_s hrun
    have hj_3 : ∀ (x3_4 : Int32), ∀ ls : Array Slot, lv_has ls 5 [(3, .int x3_4)] → K_5 x3_4 = some r → W p l e rX5_best s m args below meth c s.heap [] 0 0 (MQ below (QRr (some (.int r))) args s 0 0 (fun _ => False)) (F0 m 72 ls []) := by
      intro x3_4 ls hl hrun
      rw [hK_5] at hrun
      refine lv_ldc (v := (1000000 : Int32)) hx hb hown (hts _ q662) dX5_best_72 ?_
      refine lv_iload_n hx hb dX5_best_74 rfl (lv_at hl 0 rfl) ?_
      refine va_mmin hx hb (hml.trans hl.1.symm) hown (hts _ q673) (hts _ q550) (hts _ q122) (hts _ q551) (Nat.le_of_ble_eq_true rfl) (Nat.le_of_ble_eq_true rfl) (Nat.le_of_ble_eq_true rfl) (Nat.le_of_ble_eq_true rfl) dX5_best_75 ?_
      cases hrun
      exact retR_i hx hb hr hlocks rfl dX5_best_78
    have hL_6 : ∀ n : Nat, ∀ (x3_7 : Int32) (x4_8 : Int32), ∀ ls : Array Slot, lv_has ls 5 [(0, .ref (alo 0)), (1, .int p1), (2, .int p2), (3, .int x3_7), (4, .int x4_8)] → fX5_best_L35 K_5 slo sh sw p1 p2 n x3_7 x4_8 = some r → W p l e rX5_best s m args below meth c s.heap [] 0 0 (MQ below (QRr (some (.int r))) args s 0 0 (fun _ => False)) (F0 m 35 ls []) := by
      intro n
      induction n with
      | zero =>
        intro x3_7 x4_8 ls hl hrun
        exact nomatch hrun
      | succ n ih =>
        intro x3_7 x4_8 ls hl hrun
        rw [fX5_best_L35.eq_2] at hrun
        refine lv_iload hx hb dX5_best_35 (lv_at hl 4 rfl) ?_
        refine lv_bipush (v := (8 : Int32)) hx hb dX5_best_37 (by decide) ?_
        refine lv_icmp_ge (tgt := 72) hx hb dX5_best_39 (by decide) (fun c_9 => ?_) (fun c_9 => ?_)
        · have hrun := mif_p c_9 hrun
          exact hj_3 x3_7 ls (lv_sub hl [3] rfl) hrun
        have hrun := mif_n c_9 hrun
        refine lv_aload_n hx hb dX5_best_42 rfl (lv_at hl 0 rfl) ?_
        refine lv_iload_n hx hb dX5_best_43 rfl (lv_at hl 1 rfl) ?_
        refine lv_iload_n hx hb dX5_best_44 rfl (lv_at hl 2 rfl) ?_
        refine lv_iload hx hb dX5_best_45 (lv_at hl 4 rfl) ?_
        obtain ⟨r_11, hc_10, hrun⟩ := mob_s rfl hrun
        refine cRV (As := [.int p1, .int p2, .int x4_8]) (ci := 5) ⟨hx, hb, hml, hown, hts⟩ hOK hz va_S.rf hP (mtX5_can l D k ah alo aw adr aim ard asc ath awl atr Z hOK _ _ _ _ _ _ _ hc_10) (kX5_can hts q663 rfl rfl ⟨Nat.le_of_ble_eq_true rfl, Nat.le_of_ble_eq_true rfl⟩) 0 rfl rfl rfl hl.1 rfl (lv_room (Nat.le_of_ble_eq_true rfl)) ⟨Nat.le_of_ble_eq_true rfl, Nat.le_of_ble_eq_true rfl⟩ dX5_best_47 ?_
        refine lv_if_eq (tgt := 66) hx hb dX5_best_50 (by decide) (fun c_12 => ?_) (fun c_12 => ?_)
        · have hrun := mif_n (bz_z c_12) hrun
          refine lv_iinc (v := (x4_8 + (1 : Int32))) (lv' := [(4, .int (x4_8 + (1 : Int32))), (0, .ref (alo 0)), (1, .int p1), (2, .int p2), (3, .int x3_7)]) hx hb dX5_best_66 hl (k := 4) rfl rfl (by decide) rfl (fun ls hl => ?_)
          refine lv_goto (tgt := 35) hx hb dX5_best_69 (by decide) ?_
          exact ih x3_7 (x4_8 + (1 : Int32)) ls (lv_sub hl [1, 2, 3, 4, 0] rfl) hrun
        have hrun := mif_p (bz_nz c_12) hrun
        refine lv_iload_n hx hb dX5_best_53 rfl (lv_at hl 3 rfl) ?_
        refine lv_aload_n hx hb dX5_best_54 rfl (lv_at hl 0 rfl) ?_
        refine lv_iload_n hx hb dX5_best_55 rfl (lv_at hl 1 rfl) ?_
        refine lv_iload_n hx hb dX5_best_56 rfl (lv_at hl 2 rfl) ?_
        refine lv_iload hx hb dX5_best_57 (lv_at hl 4 rfl) ?_
        obtain ⟨r_14, hc_13, hrun⟩ := mob_s rfl hrun
        refine cRV (As := [.int p1, .int p2, .int x4_8]) (ci := 5) ⟨hx, hb, hml, hown, hts⟩ hOK hz va_S.rf hP (mtX5_by l D k ah alo aw adr aim ard asc ath awl atr Z hOK _ _ _ _ _ _ _ hc_13) (kX5_by hts q669 rfl rfl ⟨Nat.le_of_ble_eq_true rfl, Nat.le_of_ble_eq_true rfl⟩) 0 rfl rfl rfl hl.1 rfl (lv_room (Nat.le_of_ble_eq_true rfl)) ⟨Nat.le_of_ble_eq_true rfl, Nat.le_of_ble_eq_true rfl⟩ dX5_best_59 ?_
        refine va_mmin hx hb (hml.trans hl.1.symm) hown (hts _ q673) (hts _ q550) (hts _ q122) (hts _ q551) (Nat.le_of_ble_eq_true rfl) (Nat.le_of_ble_eq_true rfl) (Nat.le_of_ble_eq_true rfl) (Nat.le_of_ble_eq_true rfl) dX5_best_62 ?_
        refine lv_istore_n (lv' := [(3, .int (zmn x3_7 r_14)), (0, .ref (alo 0)), (1, .int p1), (2, .int p2), (4, .int x4_8)]) hx hb dX5_best_65 rfl hl (by decide) rfl (fun ls hl => ?_)
        refine lv_iinc (v := (x4_8 + (1 : Int32))) (lv' := [(4, .int (x4_8 + (1 : Int32))), (3, .int (zmn x3_7 r_14)), (0, .ref (alo 0)), (1, .int p1), (2, .int p2)]) hx hb dX5_best_66 hl (k := 4) rfl rfl (by decide) rfl (fun ls hl => ?_)
        refine lv_goto (tgt := 35) hx hb dX5_best_69 (by decide) ?_
        exact ih (zmn x3_7 r_14) (x4_8 + (1 : Int32)) ls (lv_sub hl [2, 3, 4, 1, 0] rfl) hrun
    exact hL_6 mFU (1000000 : Int32) (0 : Int32) ls (lv_sub hl [2, 3, 4, 1, 0] rfl) hrun
  have hrun := mif_n (bz_z c_2) hrun
  refine lv_aload_n hx hb dX5_best_15 rfl (lv_at hl 0 rfl) ?_
  refine va_get (ci := 5) (v := .ref (alo 1)) (C := RX5) (T := TX5) (N := 2) hx hb hts in_X5 hown hK hP 0 rfl rfl 0 (by decide) (hts _ q362) (fun _ h9 => h9) rfl dX5_best_16 ?_
  refine lv_aload_n hx hb dX5_best_19 rfl (lv_at hl 0 rfl) ?_
  refine lv_iload_n hx hb dX5_best_20 rfl (lv_at hl 1 rfl) ?_
  refine lv_iconst (v := (1 : Int32)) hx hb dX5_best_21 (by decide) ?_
  refine lv_iadd hx hb dX5_best_22 ?_
  refine lv_iload_n hx hb dX5_best_23 rfl (lv_at hl 2 rfl) ?_
  obtain ⟨r_17, hc_16, hrun⟩ := mob_s rfl hrun
  refine cRV (As := [.int (p1 + (1 : Int32)), .int p2]) (ci := 5) ⟨hx, hb, hml, hown, hts⟩ hOK hz va_S.rf (hP.sub (ws' := (cL k alo (ah 0) slo)) [0, 1] rfl) (mtX5_at l D k ah alo Z hOK _ _ _ _ hc_16) (kX5_at hts q654 rfl rfl ⟨Nat.le_of_ble_eq_true rfl, Nat.le_of_ble_eq_true rfl⟩) 0 rfl rfl rfl hl.1 rfl (lv_room (Nat.le_of_ble_eq_true rfl)) ⟨Nat.le_of_ble_eq_true rfl, Nat.le_of_ble_eq_true rfl⟩ dX5_best_24 ?_
  obtain ⟨hb_18, hrun⟩ := mck_s rfl hrun
  refine va_iald hx hb hK hP 1 0 rfl rfl hb_18 dX5_best_27 ?_
  cases hrun
  exact retR_i hx hb hr hlocks rfl dX5_best_28
def rX5_is : Room := { frames := 3, cells := 0, slots := 0, locals := 69 }
noncomputable def fX5_is_L55 (K_13 : Lo → Option (Lo)) (x1_8 : Int32) (sh : Kp) (sw : Wd) : Nat → Int32 → Lo → Option (Lo)
  | 0, _, _ => none
  | n + 1, x2_15, slo_16 =>
    if (255 : Int32) < x2_15 then
      K_13 slo_16
    else
      mob (fX5_at slo_16 x1_8 x2_15) fun r_19 =>
      mob (fX5_best slo_16 sh sw x1_8 x2_15) fun r_21 =>
      mck r_19 2304 <|
      mlt (lo_s_least slo_16 (upd (lo_least slo_16) (Int32.toNatClampNeg r_19) r_21)) fun slo_23 =>
      fX5_is_L55 K_13 x1_8 sh sw n (x2_15 + (1 : Int32)) slo_23
noncomputable def fX5_is_L49 (K_6 : Lo → Option (Lo)) (sh : Kp) (sw : Wd) : Nat → Int32 → Lo → Option (Lo)
  | 0, _, _ => none
  | n + 1, x1_8, slo_9 =>
    if x1_8 < (0 : Int32) then
      K_6 slo_9
    else
      mjn (fun (slo_12 : Lo) =>
      fX5_is_L49 K_6 sh sw n (x1_8 + (-1 : Int32)) slo_12) fun K_13 =>
      fX5_is_L55 K_13 x1_8 sh sw mFU (0 : Int32) slo_9
noncomputable def fX5_is_L2 (K_3 : Lo → Option (Lo)) (sw : Wd) : Nat → Int32 → Lo → Option (Lo)
  | 0, _, _ => none
  | n + 1, x1_27, slo_28 =>
    if (255 : Int32) < x1_27 then
      K_3 slo_28
    else
      mob (fX5_at slo_28 (wd_guests sw) x1_27) fun r_31 =>
      mck r_31 2304 <|
      mlt (lo_s_least slo_28 (upd (lo_least slo_28) (Int32.toNatClampNeg r_31) (0 : Int32))) fun slo_33 =>
      fX5_is_L2 K_3 sw n (x1_27 + (1 : Int32)) slo_33
noncomputable def fX5_is (slo : Lo) (sh : Kp) (sw : Wd) : Option (Lo) :=
  mjn (fun (slo_2 : Lo) =>
  mjn (fun (slo_5 : Lo) =>
  some slo_5) fun K_6 =>
  fX5_is_L49 K_6 sh sw mFU ((wd_guests sw) - (1 : Int32)) slo_2) fun K_3 =>
  fX5_is_L2 K_3 sw mFU (0 : Int32) slo
theorem kX5_is {R : Room} {s : State} {args : Array Value} {own : String} {idx mc ms : Nat} {rm : Room} (hts : ∀ w ∈ lw_all, w.before args s = true) (hl : Cond.methodLink own idx yX5_is ∈ lw_all) (hrc : rm.cells = mc) (hrs : rm.slots = ms) (hR : rm.frames + 1 ≤ R.frames ∧ 8 + (3 + 11) + rm.locals ≤ R.locals) : CallW R s args own RX5 idx yX5_is cX5_is 3 (some (.object "SaturdayKeep$Lodge")) (ws_ yX5_is cX5_is 3 (some (.object "SaturdayKeep$Lodge"))) rm mc ms 0 :=
  cwV 0 hts (lw_V hl q651 q652 q114 q653) rfl hrc hrs (by decide +kernel) hR
set_option maxHeartbeats 4000000 in
set_option maxRecDepth 100000 in
theorem mtX5_is (l : Launch) (D : va_G) (k : Nat → ClassId) (ah : Nat → Nat) (alo : Nat → Nat) (aw : Nat → Nat) (adr : Nat → Nat) (aim : Nat → Nat) (ard : Nat → Nat) (asc : Nat → Nat) (ath : Nat → Nat) (awl : Nat → Nat) (atr : Nat → Nat) (Z : zZ) (hOK : zOK D zCl (zTys k) Z) (slo : Lo) (sh : Kp) (sw : Wd) (olo : Lo) (hrun : fX5_is slo sh sw = some olo) :
    CtW l yX5_is cX5_is 3 (some (.object "SaturdayKeep$Lodge")) rX5_is Z D zCl ((cL k alo (ah 0) slo) ++ ((cH k ah aw adr aim ard asc ath awl alo atr sh) ++ (cW k aw sw))) [.ref (alo 0)] (fun r' w' => r' = (some (.ref (alo 0))) ∧ w' = ((cL k alo (ah 0) olo) ++ ((cH k ah aw adr aim ard asc ath awl alo atr sh) ++ (cW k aw sw)))) 0 0 := by
  refine CtW.of (by decide) (Nat.le_of_ble_eq_true rfl) ?_
  intro p e s m args below meth c A hE hA hP hD hS hz ls hl
  obtain ⟨hx, hb, hr, hml, hown, hts, hlocks, hname⟩ := hE
  have hown : s.vm.findClass RX5 = some m.cls := hown
  have hK := hOK.1 _ _ _ hz
  have hN := hOK.2.1 _ _ _ hz
  have hl : lv_has ls 3 [(0, .ref (alo 0))] := hl
  unfold fX5_is at hrun
  refine lv_iconst (v := (0 : Int32)) hx hb dX5_is_0 (by decide) ?_
  refine lv_istore_n (lv' := [(1, .int (0 : Int32)), (0, .ref (alo 0))]) hx hb dX5_is_1 rfl hl (by decide) rfl (fun ls hl => ?_)
  obtain ⟨K_3, hK_3, hrun⟩ := mjn_s hrun
  have hj_1 : ∀ (slo_2 : Lo), ∀ (H : Heap) (locs : List Loc), va_P D zCl ((cL k alo (ah 0) slo_2) ++ ((cH k ah aw adr aim ard asc ath awl alo atr sh) ++ (cW k aw sw))) H → va_D A ((cL k alo (ah 0) slo_2) ++ ((cH k ah aw adr aim ard asc ath awl alo atr sh) ++ (cW k aw sw))) → va_S A s.heap H locs → ∀ ls : Array Slot, lv_has ls 3 [(0, .ref (alo 0))] → K_3 slo_2 = some olo → W p l e rX5_is s m args below meth c H locs 0 0 (MQ below (QWr (fun r' w' => r' = (some (.ref (alo 0))) ∧ w' = ((cL k alo (ah 0) olo) ++ ((cH k ah aw adr aim ard asc ath awl alo atr sh) ++ (cW k aw sw)))) D zCl A) args s 0 0 A) (F0 m 36 ls []) := by
    intro slo_2 H locs hP hD hS ls hl hrun
    rw [hK_3] at hrun
    refine lv_aload_n hx hb dX5_is_36 rfl (lv_at hl 0 rfl) ?_
    refine va_get (ci := 5) (v := .ref (ah 0)) (C := RX5) (T := TX5) (N := 2) hx hb hts in_X5 hown hK hP 0 rfl rfl 1 (by decide) (hts _ q364) (fun _ h9 => h9) rfl dX5_is_37 ?_
    refine va_getN (ci := 1) (v := .ref (aw 0)) (C := RX1) (T := TX1) (N := 10) hx hb hts in_X1 hown hK hP 2 rfl rfl 0 (by decide) (va_Nw.use rfl (hN _ (zN_of q371 rfl))) (fun _ h9 => h9) rfl dX5_is_40 ?_
    refine va_getN (ci := 2) (v := .int (wd_guests sw)) (C := RX2) (T := TX2) (N := 21) hx hb hts in_X2 hown hK hP 3 rfl rfl 1 (by decide) (va_Nw.use rfl (hN _ (zN_of q165 rfl))) (fun _ h9 => h9) rfl dX5_is_43 ?_
    refine lv_iconst (v := (1 : Int32)) hx hb dX5_is_46 (by decide) ?_
    refine lv_isub hx hb dX5_is_47 ?_
    refine lv_istore_n (lv' := [(1, .int ((wd_guests sw) - (1 : Int32))), (0, .ref (alo 0))]) hx hb dX5_is_48 rfl hl (by decide) rfl (fun ls hl => ?_)
    obtain ⟨K_6, hK_6, hrun⟩ := mjn_s hrun
    have hj_4 : ∀ (slo_5 : Lo), ∀ (H : Heap) (locs : List Loc), va_P D zCl ((cL k alo (ah 0) slo_5) ++ ((cH k ah aw adr aim ard asc ath awl alo atr sh) ++ (cW k aw sw))) H → va_D A ((cL k alo (ah 0) slo_5) ++ ((cH k ah aw adr aim ard asc ath awl alo atr sh) ++ (cW k aw sw))) → va_S A s.heap H locs → ∀ ls : Array Slot, lv_has ls 3 [(0, .ref (alo 0))] → K_6 slo_5 = some olo → W p l e rX5_is s m args below meth c H locs 0 0 (MQ below (QWr (fun r' w' => r' = (some (.ref (alo 0))) ∧ w' = ((cL k alo (ah 0) olo) ++ ((cH k ah aw adr aim ard asc ath awl alo atr sh) ++ (cW k aw sw)))) D zCl A) args s 0 0 A) (F0 m 91 ls []) := by
      intro slo_5 H locs hP hD hS ls hl hrun
      rw [hK_6] at hrun
      refine lv_aload_n hx hb dX5_is_91 rfl (lv_at hl 0 rfl) ?_
      cases hrun
      exact retW_a hx hb hr (Or.inl ⟨_, rfl⟩) hlocks hP hD hS ⟨rfl, rfl⟩ dX5_is_92
    have hL_7 : ∀ n : Nat, ∀ (x1_8 : Int32) (slo_9 : Lo), ∀ (H : Heap) (locs : List Loc), va_P D zCl ((cL k alo (ah 0) slo_9) ++ ((cH k ah aw adr aim ard asc ath awl alo atr sh) ++ (cW k aw sw))) H → va_D A ((cL k alo (ah 0) slo_9) ++ ((cH k ah aw adr aim ard asc ath awl alo atr sh) ++ (cW k aw sw))) → va_S A s.heap H locs → ∀ ls : Array Slot, lv_has ls 3 [(0, .ref (alo 0)), (1, .int x1_8)] → fX5_is_L49 K_6 sh sw n x1_8 slo_9 = some olo → W p l e rX5_is s m args below meth c H locs 0 0 (MQ below (QWr (fun r' w' => r' = (some (.ref (alo 0))) ∧ w' = ((cL k alo (ah 0) olo) ++ ((cH k ah aw adr aim ard asc ath awl alo atr sh) ++ (cW k aw sw)))) D zCl A) args s 0 0 A) (F0 m 49 ls []) := by
      intro n
      induction n with
      | zero =>
        intro x1_8 slo_9 H locs hP hD hS ls hl hrun
        exact nomatch hrun
      | succ n ih =>
        intro x1_8 slo_9 H locs hP hD hS ls hl hrun
        rw [fX5_is_L49.eq_2] at hrun
        refine lv_iload_n hx hb dX5_is_49 rfl (lv_at hl 1 rfl) ?_
        refine lv_if_lt (tgt := 91) hx hb dX5_is_50 (by decide) (fun c_10 => ?_) (fun c_10 => ?_)
        · have hrun := mif_p c_10 hrun
          exact hj_4 slo_9 _ _ hP hD hS ls (lv_sub hl [0] rfl) hrun
        have hrun := mif_n c_10 hrun
        refine lv_iconst (v := (0 : Int32)) hx hb dX5_is_53 (by decide) ?_
        refine lv_istore_n (lv' := [(2, .int (0 : Int32)), (0, .ref (alo 0)), (1, .int x1_8)]) hx hb dX5_is_54 rfl hl (by decide) rfl (fun ls hl => ?_)
        obtain ⟨K_13, hK_13, hrun⟩ := mjn_s hrun
        have hj_11 : ∀ (slo_12 : Lo), ∀ (H : Heap) (locs : List Loc), va_P D zCl ((cL k alo (ah 0) slo_12) ++ ((cH k ah aw adr aim ard asc ath awl alo atr sh) ++ (cW k aw sw))) H → va_D A ((cL k alo (ah 0) slo_12) ++ ((cH k ah aw adr aim ard asc ath awl alo atr sh) ++ (cW k aw sw))) → va_S A s.heap H locs → ∀ ls : Array Slot, lv_has ls 3 [(0, .ref (alo 0)), (1, .int x1_8)] → K_13 slo_12 = some olo → W p l e rX5_is s m args below meth c H locs 0 0 (MQ below (QWr (fun r' w' => r' = (some (.ref (alo 0))) ∧ w' = ((cL k alo (ah 0) olo) ++ ((cH k ah aw adr aim ard asc ath awl alo atr sh) ++ (cW k aw sw)))) D zCl A) args s 0 0 A) (F0 m 85 ls []) := by
          intro slo_12 H locs hP hD hS ls hl hrun
          rw [hK_13] at hrun
          refine lv_iinc (v := (x1_8 + (-1 : Int32))) (lv' := [(1, .int (x1_8 + (-1 : Int32))), (0, .ref (alo 0))]) hx hb dX5_is_85 hl (k := 1) rfl rfl (by decide) rfl (fun ls hl => ?_)
          refine lv_goto (tgt := 49) hx hb dX5_is_88 (by decide) ?_
          exact ih (x1_8 + (-1 : Int32)) slo_12 _ _ hP hD hS ls (lv_sub hl [1, 0] rfl) hrun
        have hL_14 : ∀ n : Nat, ∀ (x2_15 : Int32) (slo_16 : Lo), ∀ (H : Heap) (locs : List Loc), va_P D zCl ((cL k alo (ah 0) slo_16) ++ ((cH k ah aw adr aim ard asc ath awl alo atr sh) ++ (cW k aw sw))) H → va_D A ((cL k alo (ah 0) slo_16) ++ ((cH k ah aw adr aim ard asc ath awl alo atr sh) ++ (cW k aw sw))) → va_S A s.heap H locs → ∀ ls : Array Slot, lv_has ls 3 [(0, .ref (alo 0)), (1, .int x1_8), (2, .int x2_15)] → fX5_is_L55 K_13 x1_8 sh sw n x2_15 slo_16 = some olo → W p l e rX5_is s m args below meth c H locs 0 0 (MQ below (QWr (fun r' w' => r' = (some (.ref (alo 0))) ∧ w' = ((cL k alo (ah 0) olo) ++ ((cH k ah aw adr aim ard asc ath awl alo atr sh) ++ (cW k aw sw)))) D zCl A) args s 0 0 A) (F0 m 55 ls []) := by
          intro n
          induction n with
          | zero =>
            intro x2_15 slo_16 H locs hP hD hS ls hl hrun
            exact nomatch hrun
          | succ n ih =>
            intro x2_15 slo_16 H locs hP hD hS ls hl hrun
            rw [fX5_is_L55.eq_2] at hrun
            refine lv_iload_n hx hb dX5_is_55 rfl (lv_at hl 2 rfl) ?_
            refine lv_sipush (v := (255 : Int32)) hx hb dX5_is_56 (by decide) ?_
            refine lv_icmp_gt (tgt := 85) hx hb dX5_is_59 (by decide) (fun c_17 => ?_) (fun c_17 => ?_)
            · have hrun := mif_p c_17 hrun
              exact hj_11 slo_16 _ _ hP hD hS ls (lv_sub hl [0, 1] rfl) hrun
            have hrun := mif_n c_17 hrun
            refine lv_aload_n hx hb dX5_is_62 rfl (lv_at hl 0 rfl) ?_
            refine va_get (ci := 5) (v := .ref (alo 1)) (C := RX5) (T := TX5) (N := 2) hx hb hts in_X5 hown hK hP 0 rfl rfl 0 (by decide) (hts _ q362) (fun _ h9 => h9) rfl dX5_is_63 ?_
            refine lv_aload_n hx hb dX5_is_66 rfl (lv_at hl 0 rfl) ?_
            refine lv_iload_n hx hb dX5_is_67 rfl (lv_at hl 1 rfl) ?_
            refine lv_iload_n hx hb dX5_is_68 rfl (lv_at hl 2 rfl) ?_
            obtain ⟨r_19, hc_18, hrun⟩ := mob_s rfl hrun
            refine cRV (As := [.int x1_8, .int x2_15]) (ci := 5) ⟨hx, hb, hml, hown, hts⟩ hOK hz hS (hP.sub (ws' := (cL k alo (ah 0) slo_16)) [0, 1] rfl) (mtX5_at l D k ah alo Z hOK _ _ _ _ hc_18) (kX5_at hts q654 rfl rfl ⟨Nat.le_of_ble_eq_true rfl, Nat.le_of_ble_eq_true rfl⟩) 0 rfl rfl rfl hl.1 rfl (lv_room (Nat.le_of_ble_eq_true rfl)) ⟨Nat.le_of_ble_eq_true rfl, Nat.le_of_ble_eq_true rfl⟩ dX5_is_69 ?_
            refine lv_aload_n hx hb dX5_is_72 rfl (lv_at hl 0 rfl) ?_
            refine lv_iload_n hx hb dX5_is_73 rfl (lv_at hl 1 rfl) ?_
            refine lv_iload_n hx hb dX5_is_74 rfl (lv_at hl 2 rfl) ?_
            obtain ⟨r_21, hc_20, hrun⟩ := mob_s rfl hrun
            refine cRV (As := [.int x1_8, .int x2_15]) (ci := 5) ⟨hx, hb, hml, hown, hts⟩ hOK hz hS hP (mtX5_best l D k ah alo aw adr aim ard asc ath awl atr Z hOK _ _ _ _ _ _ hc_20) (kX5_best hts q658 rfl rfl ⟨Nat.le_of_ble_eq_true rfl, Nat.le_of_ble_eq_true rfl⟩) 0 rfl rfl rfl hl.1 rfl (lv_room (Nat.le_of_ble_eq_true rfl)) ⟨Nat.le_of_ble_eq_true rfl, Nat.le_of_ble_eq_true rfl⟩ dX5_is_75 ?_
            obtain ⟨hb_22, hrun⟩ := mck_s rfl hrun
            refine va_iast hx hb hK hP hD hS 1 0 rfl rfl hb_22 dX5_is_78 (fun H locs hP hD hS => ?_)
            have hP : va_P D zCl ((cL k alo (ah 0) (lo_s_least slo_16 (upd (lo_least slo_16) (Int32.toNatClampNeg r_19) r_21))) ++ ((cH k ah aw adr aim ard asc ath awl alo atr sh) ++ (cW k aw sw))) H := hP
            have hD : va_D A ((cL k alo (ah 0) (lo_s_least slo_16 (upd (lo_least slo_16) (Int32.toNatClampNeg r_19) r_21))) ++ ((cH k ah aw adr aim ard asc ath awl alo atr sh) ++ (cW k aw sw))) := hD
            obtain ⟨slo_23, eslo_23⟩ : ∃ z : Lo, z = (lo_s_least slo_16 (upd (lo_least slo_16) (Int32.toNatClampNeg r_19) r_21)) := ⟨_, rfl⟩
            rw [← eslo_23] at hP hD
            have hrun := mlt_s hrun slo_23 eslo_23
            refine lv_iinc (v := (x2_15 + (1 : Int32))) (lv' := [(2, .int (x2_15 + (1 : Int32))), (0, .ref (alo 0)), (1, .int x1_8)]) hx hb dX5_is_79 hl (k := 2) rfl rfl (by decide) rfl (fun ls hl => ?_)
            refine lv_goto (tgt := 55) hx hb dX5_is_82 (by decide) ?_
            exact ih (x2_15 + (1 : Int32)) slo_23 _ _ hP hD hS ls (lv_sub hl [1, 2, 0] rfl) hrun
        exact hL_14 mFU (0 : Int32) slo_9 _ _ hP hD hS ls (lv_sub hl [1, 2, 0] rfl) hrun
    exact hL_7 mFU ((wd_guests sw) - (1 : Int32)) slo_2 _ _ hP hD hS ls (lv_sub hl [1, 0] rfl) hrun
  have hL_26 : ∀ n : Nat, ∀ (x1_27 : Int32) (slo_28 : Lo), ∀ (H : Heap) (locs : List Loc), va_P D zCl ((cL k alo (ah 0) slo_28) ++ ((cH k ah aw adr aim ard asc ath awl alo atr sh) ++ (cW k aw sw))) H → va_D A ((cL k alo (ah 0) slo_28) ++ ((cH k ah aw adr aim ard asc ath awl alo atr sh) ++ (cW k aw sw))) → va_S A s.heap H locs → ∀ ls : Array Slot, lv_has ls 3 [(0, .ref (alo 0)), (1, .int x1_27)] → fX5_is_L2 K_3 sw n x1_27 slo_28 = some olo → W p l e rX5_is s m args below meth c H locs 0 0 (MQ below (QWr (fun r' w' => r' = (some (.ref (alo 0))) ∧ w' = ((cL k alo (ah 0) olo) ++ ((cH k ah aw adr aim ard asc ath awl alo atr sh) ++ (cW k aw sw)))) D zCl A) args s 0 0 A) (F0 m 2 ls []) := by
    intro n
    induction n with
    | zero =>
      intro x1_27 slo_28 H locs hP hD hS ls hl hrun
      exact nomatch hrun
    | succ n ih =>
      intro x1_27 slo_28 H locs hP hD hS ls hl hrun
      rw [fX5_is_L2.eq_2] at hrun
      refine lv_iload_n hx hb dX5_is_2 rfl (lv_at hl 1 rfl) ?_
      refine lv_sipush (v := (255 : Int32)) hx hb dX5_is_3 (by decide) ?_
      refine lv_icmp_gt (tgt := 36) hx hb dX5_is_6 (by decide) (fun c_29 => ?_) (fun c_29 => ?_)
      · have hrun := mif_p c_29 hrun
        exact hj_1 slo_28 _ _ hP hD hS ls (lv_sub hl [0] rfl) hrun
      have hrun := mif_n c_29 hrun
      refine lv_aload_n hx hb dX5_is_9 rfl (lv_at hl 0 rfl) ?_
      refine va_get (ci := 5) (v := .ref (alo 1)) (C := RX5) (T := TX5) (N := 2) hx hb hts in_X5 hown hK hP 0 rfl rfl 0 (by decide) (hts _ q362) (fun _ h9 => h9) rfl dX5_is_10 ?_
      refine lv_aload_n hx hb dX5_is_13 rfl (lv_at hl 0 rfl) ?_
      refine lv_aload_n hx hb dX5_is_14 rfl (lv_at hl 0 rfl) ?_
      refine va_get (ci := 5) (v := .ref (ah 0)) (C := RX5) (T := TX5) (N := 2) hx hb hts in_X5 hown hK hP 0 rfl rfl 1 (by decide) (hts _ q364) (fun _ h9 => h9) rfl dX5_is_15 ?_
      refine va_getN (ci := 1) (v := .ref (aw 0)) (C := RX1) (T := TX1) (N := 10) hx hb hts in_X1 hown hK hP 2 rfl rfl 0 (by decide) (va_Nw.use rfl (hN _ (zN_of q371 rfl))) (fun _ h9 => h9) rfl dX5_is_18 ?_
      refine va_getN (ci := 2) (v := .int (wd_guests sw)) (C := RX2) (T := TX2) (N := 21) hx hb hts in_X2 hown hK hP 3 rfl rfl 1 (by decide) (va_Nw.use rfl (hN _ (zN_of q165 rfl))) (fun _ h9 => h9) rfl dX5_is_21 ?_
      refine lv_iload_n hx hb dX5_is_24 rfl (lv_at hl 1 rfl) ?_
      obtain ⟨r_31, hc_30, hrun⟩ := mob_s rfl hrun
      refine cRV (As := [.int (wd_guests sw), .int x1_27]) (ci := 5) ⟨hx, hb, hml, hown, hts⟩ hOK hz hS (hP.sub (ws' := (cL k alo (ah 0) slo_28)) [0, 1] rfl) (mtX5_at l D k ah alo Z hOK _ _ _ _ hc_30) (kX5_at hts q654 rfl rfl ⟨Nat.le_of_ble_eq_true rfl, Nat.le_of_ble_eq_true rfl⟩) 0 rfl rfl rfl hl.1 rfl (lv_room (Nat.le_of_ble_eq_true rfl)) ⟨Nat.le_of_ble_eq_true rfl, Nat.le_of_ble_eq_true rfl⟩ dX5_is_25 ?_
      refine lv_iconst (v := (0 : Int32)) hx hb dX5_is_28 (by decide) ?_
      obtain ⟨hb_32, hrun⟩ := mck_s rfl hrun
      refine va_iast hx hb hK hP hD hS 1 0 rfl rfl hb_32 dX5_is_29 (fun H locs hP hD hS => ?_)
      have hP : va_P D zCl ((cL k alo (ah 0) (lo_s_least slo_28 (upd (lo_least slo_28) (Int32.toNatClampNeg r_31) (0 : Int32)))) ++ ((cH k ah aw adr aim ard asc ath awl alo atr sh) ++ (cW k aw sw))) H := hP
      have hD : va_D A ((cL k alo (ah 0) (lo_s_least slo_28 (upd (lo_least slo_28) (Int32.toNatClampNeg r_31) (0 : Int32)))) ++ ((cH k ah aw adr aim ard asc ath awl alo atr sh) ++ (cW k aw sw))) := hD
      obtain ⟨slo_33, eslo_33⟩ : ∃ z : Lo, z = (lo_s_least slo_28 (upd (lo_least slo_28) (Int32.toNatClampNeg r_31) (0 : Int32))) := ⟨_, rfl⟩
      rw [← eslo_33] at hP hD
      have hrun := mlt_s hrun slo_33 eslo_33
      refine lv_iinc (v := (x1_27 + (1 : Int32))) (lv' := [(1, .int (x1_27 + (1 : Int32))), (0, .ref (alo 0))]) hx hb dX5_is_30 hl (k := 1) rfl rfl (by decide) rfl (fun ls hl => ?_)
      refine lv_goto (tgt := 2) hx hb dX5_is_33 (by decide) ?_
      exact ih (x1_27 + (1 : Int32)) slo_33 _ _ hP hD hS ls (lv_sub hl [1, 0] rfl) hrun
  exact hL_26 mFU (0 : Int32) slo _ _ hP hD hS ls (lv_sub hl [1, 0] rfl) hrun
def rX5_isNone : Room := { frames := 0, cells := 0, slots := 0, locals := 0 }
noncomputable def fX5_isNone (slo : Lo) : Option (Bool) :=
  if ((lo_least slo) 0) < (1000000 : Int32) then
    some false
  else
    some true
theorem kX5_isNone {R : Room} {s : State} {args : Array Value} {own : String} {idx mc ms : Nat} {rm : Room} (hts : ∀ w ∈ lw_all, w.before args s = true) (hl : Cond.methodLink own idx yX5_isNone ∈ lw_all) (hrc : rm.cells = mc) (hrs : rm.slots = ms) (hR : rm.frames + 1 ≤ R.frames ∧ 8 + (1 + 11) + rm.locals ≤ R.locals) : CallW R s args own RX5 idx yX5_isNone cX5_isNone 1 (some .boolean) (ws_ yX5_isNone cX5_isNone 1 (some .boolean)) rm mc ms 0 :=
  cwV 0 hts (lw_V hl q675 q676 q114 q677) rfl hrc hrs (by decide +kernel) hR
set_option maxHeartbeats 4000000 in
set_option maxRecDepth 100000 in
theorem mtX5_isNone (l : Launch) (D : va_G) (k : Nat → ClassId) (ah : Nat → Nat) (alo : Nat → Nat) (Z : zZ) (hOK : zOK D zCl (zTys k) Z) (slo : Lo) (r : Bool) (hrun : fX5_isNone slo = some r) :
    CtR l yX5_isNone cX5_isNone 1 (some .boolean) rX5_isNone Z D zCl (cL k alo (ah 0) slo) [.ref (alo 0)] (some (.int (bz r))) := by
  refine CtR.of (by decide) (Nat.le_of_ble_eq_true rfl) ?_
  intro p e s m args below meth c hE hP hz ls hl
  obtain ⟨hx, hb, hr, hml, hown, hts, hlocks, hname⟩ := hE
  have hown : s.vm.findClass RX5 = some m.cls := hown
  have hK := hOK.1 _ _ _ hz
  have hN := hOK.2.1 _ _ _ hz
  have hl : lv_has ls 1 [(0, .ref (alo 0))] := hl
  unfold fX5_isNone at hrun
  refine lv_aload_n hx hb dX5_isNone_0 rfl (lv_at hl 0 rfl) ?_
  refine va_get (ci := 5) (v := .ref (alo 1)) (C := RX5) (T := TX5) (N := 2) hx hb hts in_X5 hown hK hP 0 rfl rfl 0 (by decide) (hts _ q362) (fun _ h9 => h9) rfl dX5_isNone_1 ?_
  refine lv_iconst (v := (0 : Int32)) hx hb dX5_isNone_4 (by decide) ?_
  refine va_ialdk (k := 0) hx hb hK hP 1 0 rfl rfl rfl (show ¬ _ from by decide) dX5_isNone_5 ?_
  refine lv_ldc (v := (1000000 : Int32)) hx hb hown (hts _ q662) dX5_isNone_6 ?_
  refine lv_icmp_lt (tgt := 15) hx hb dX5_isNone_8 (by decide) (fun c_1 => ?_) (fun c_1 => ?_)
  · have hrun := mif_p c_1 hrun
    refine lv_iconst (v := (0 : Int32)) hx hb dX5_isNone_15 (by decide) ?_
    cases hrun
    exact retR_z (v := false) hx hb hr hlocks rfl dX5_isNone_16
  have hrun := mif_n c_1 hrun
  refine lv_iconst (v := (1 : Int32)) hx hb dX5_isNone_11 (by decide) ?_
  refine lv_goto (tgt := 16) hx hb dX5_isNone_12 (by decide) ?_
  cases hrun
  exact retR_z (v := true) hx hb hr hlocks rfl dX5_isNone_16
def rX5_roomOf : Room := { frames := 2, cells := 0, slots := 0, locals := 45 }
noncomputable def fX5_roomOf_L44 (slo : Lo) (sh : Kp) (sw : Wd) (x4_4 : Int32) (x2_2 : Int32) (K_10 : Int32 → Option (Int32)) : Nat → Int32 → Option (Int32)
  | 0, _ => none
  | n + 1, x5_13 =>
    mob (fX5_can slo sh sw x4_4 x2_2 x5_13) fun r_15 =>
    mjn (fun (x5_18 : Int32) =>
    mob (fX5_by slo sh sw x4_4 x2_2 x5_18) fun r_21 =>
    mob (fX5_at slo x4_4 x2_2) fun r_23 =>
    mck r_23 2304 <|
    if r_21 = ((lo_least slo) (Int32.toNatClampNeg r_23)) then
      K_10 x5_18
    else
      fX5_roomOf_L44 slo sh sw x4_4 x2_2 K_10 n (x5_18 + (1 : Int32))) fun K_19 =>
    if r_15 = true then
      K_19 x5_13
    else
      fX5_roomOf_L44 slo sh sw x4_4 x2_2 K_10 n (x5_13 + (1 : Int32))
noncomputable def fX5_roomOf_L7 (sw : Wd) (slo : Lo) (sh : Kp) : Nat → Int32 → Int32 → Int32 → Option (Int32)
  | 0, _, _, _ => none
  | n + 1, x2_2, x3_3, x4_4 =>
    if (wd_guests sw) ≤ x4_4 then
      some (-1 : Int32)
    else
      mck x4_4 8 <|
      if ((wd_here sw) (Int32.toNatClampNeg x4_4)) = true then
        mjn (fun (x5_9 : Int32) =>
        if x3_3 = (0 : Int32) then
          some x5_9
        else
          fX5_roomOf_L7 sw slo sh n (x2_2 ||| ((1 : Int32) <<< (x5_9 &&& (31 : Int32)))) (x3_3 + (-1 : Int32)) (x4_4 + (1 : Int32))) fun K_10 =>
        fX5_roomOf_L44 slo sh sw x4_4 x2_2 K_10 mFU (0 : Int32)
      else
        fX5_roomOf_L7 sw slo sh n x2_2 x3_3 (x4_4 + (1 : Int32))
noncomputable def fX5_roomOf (slo : Lo) (sh : Kp) (sw : Wd) (p1 : Int32) : Option (Int32) :=
  fX5_roomOf_L7 sw slo sh mFU (0 : Int32) p1 (0 : Int32)
theorem kX5_roomOf {R : Room} {s : State} {args : Array Value} {own : String} {idx mc ms : Nat} {rm : Room} (hts : ∀ w ∈ lw_all, w.before args s = true) (hl : Cond.methodLink own idx yX5_roomOf ∈ lw_all) (hrc : rm.cells = mc) (hrs : rm.slots = ms) (hR : rm.frames + 1 ≤ R.frames ∧ 8 + (6 + 11) + rm.locals ≤ R.locals) : CallW R s args own RX5 idx yX5_roomOf cX5_roomOf 6 (some .int) (ws_ yX5_roomOf cX5_roomOf 6 (some .int)) rm mc ms 1 :=
  cwV 1 hts (lw_V hl q679 q680 q114 q681) rfl hrc hrs (by decide +kernel) hR
set_option maxHeartbeats 4000000 in
set_option maxRecDepth 100000 in
theorem mtX5_roomOf (l : Launch) (D : va_G) (k : Nat → ClassId) (ah : Nat → Nat) (alo : Nat → Nat) (aw : Nat → Nat) (adr : Nat → Nat) (aim : Nat → Nat) (ard : Nat → Nat) (asc : Nat → Nat) (ath : Nat → Nat) (awl : Nat → Nat) (atr : Nat → Nat) (Z : zZ) (hOK : zOK D zCl (zTys k) Z) (slo : Lo) (sh : Kp) (sw : Wd) (p1 : Int32) (r : Int32) (hrun : fX5_roomOf slo sh sw p1 = some r) :
    CtR l yX5_roomOf cX5_roomOf 6 (some .int) rX5_roomOf Z D zCl ((cL k alo (ah 0) slo) ++ ((cH k ah aw adr aim ard asc ath awl alo atr sh) ++ (cW k aw sw))) [.ref (alo 0), .int p1] (some (.int r)) := by
  refine CtR.of (by decide) (Nat.le_of_ble_eq_true rfl) ?_
  intro p e s m args below meth c hE hP hz ls hl
  obtain ⟨hx, hb, hr, hml, hown, hts, hlocks, hname⟩ := hE
  have hown : s.vm.findClass RX5 = some m.cls := hown
  have hK := hOK.1 _ _ _ hz
  have hN := hOK.2.1 _ _ _ hz
  have hl : lv_has ls 6 [(0, .ref (alo 0)), (1, .int p1)] := hl
  unfold fX5_roomOf at hrun
  refine lv_iconst (v := (0 : Int32)) hx hb dX5_roomOf_0 (by decide) ?_
  refine lv_istore_n (lv' := [(2, .int (0 : Int32)), (0, .ref (alo 0)), (1, .int p1)]) hx hb dX5_roomOf_1 rfl hl (by decide) rfl (fun ls hl => ?_)
  refine lv_iload_n hx hb dX5_roomOf_2 rfl (lv_at hl 2 rfl) ?_
  refine lv_istore_n (lv' := [(3, .int p1), (2, .int (0 : Int32)), (0, .ref (alo 0)), (1, .int p1)]) hx hb dX5_roomOf_3 rfl hl (by decide) rfl (fun ls hl => ?_)
  refine lv_iconst (v := (0 : Int32)) hx hb dX5_roomOf_4 (by decide) ?_
  refine lv_istore (lv' := [(4, .int (0 : Int32)), (3, .int p1), (2, .int (0 : Int32)), (0, .ref (alo 0)), (1, .int p1)]) hx hb dX5_roomOf_5 hl (by decide) rfl (fun ls hl => ?_)
  have hL_1 : ∀ n : Nat, ∀ (x2_2 : Int32) (x3_3 : Int32) (x4_4 : Int32), ∀ ls : Array Slot, lv_has ls 6 [(0, .ref (alo 0)), (2, .int x2_2), (3, .int x3_3), (4, .int x4_4)] → fX5_roomOf_L7 sw slo sh n x2_2 x3_3 x4_4 = some r → W p l e rX5_roomOf s m args below meth c s.heap [] 0 0 (MQ below (QRr (some (.int r))) args s 0 0 (fun _ => False)) (F0 m 7 ls []) := by
    intro n
    induction n with
    | zero =>
      intro x2_2 x3_3 x4_4 ls hl hrun
      exact nomatch hrun
    | succ n ih =>
      intro x2_2 x3_3 x4_4 ls hl hrun
      rw [fX5_roomOf_L7.eq_2] at hrun
      refine lv_iload hx hb dX5_roomOf_7 (lv_at hl 3 rfl) ?_
      refine lv_aload_n hx hb dX5_roomOf_9 rfl (lv_at hl 0 rfl) ?_
      refine va_get (ci := 5) (v := .ref (ah 0)) (C := RX5) (T := TX5) (N := 2) hx hb hts in_X5 hown hK hP 0 rfl rfl 1 (by decide) (hts _ q364) (fun _ h9 => h9) rfl dX5_roomOf_10 ?_
      refine va_getN (ci := 1) (v := .ref (aw 0)) (C := RX1) (T := TX1) (N := 10) hx hb hts in_X1 hown hK hP 2 rfl rfl 0 (by decide) (va_Nw.use rfl (hN _ (zN_of q371 rfl))) (fun _ h9 => h9) rfl dX5_roomOf_13 ?_
      refine va_getN (ci := 2) (v := .int (wd_guests sw)) (C := RX2) (T := TX2) (N := 21) hx hb hts in_X2 hown hK hP 3 rfl rfl 1 (by decide) (va_Nw.use rfl (hN _ (zN_of q165 rfl))) (fun _ h9 => h9) rfl dX5_roomOf_16 ?_
      refine lv_icmp_ge (tgt := 109) hx hb dX5_roomOf_19 (by decide) (fun c_5 => ?_) (fun c_5 => ?_)
      · have hrun := mif_p c_5 hrun
        refine lv_iconst (v := (-1 : Int32)) hx hb dX5_roomOf_109 (by decide) ?_
        cases hrun
        exact retR_i hx hb hr hlocks rfl dX5_roomOf_110
      have hrun := mif_n c_5 hrun
      refine lv_aload_n hx hb dX5_roomOf_22 rfl (lv_at hl 0 rfl) ?_
      refine va_get (ci := 5) (v := .ref (ah 0)) (C := RX5) (T := TX5) (N := 2) hx hb hts in_X5 hown hK hP 0 rfl rfl 1 (by decide) (hts _ q364) (fun _ h9 => h9) rfl dX5_roomOf_23 ?_
      refine va_getN (ci := 1) (v := .ref (aw 0)) (C := RX1) (T := TX1) (N := 10) hx hb hts in_X1 hown hK hP 2 rfl rfl 0 (by decide) (va_Nw.use rfl (hN _ (zN_of q371 rfl))) (fun _ h9 => h9) rfl dX5_roomOf_26 ?_
      refine va_getN (ci := 2) (v := .ref (aw 6)) (C := RX2) (T := TX2) (N := 21) hx hb hts in_X2 hown hK hP 3 rfl rfl 17 (by decide) (va_Nw.use rfl (hN _ (zN_of q201 rfl))) (fun _ h9 => h9) rfl dX5_roomOf_29 ?_
      refine lv_iload hx hb dX5_roomOf_32 (lv_at hl 3 rfl) ?_
      obtain ⟨hb_6, hrun⟩ := mck_s rfl hrun
      refine va_zald hx hb hK hP 9 1 rfl rfl hb_6 dX5_roomOf_34 ?_
      refine lv_if_ne (tgt := 41) hx hb dX5_roomOf_35 (by decide) (fun c_7 => ?_) (fun c_7 => ?_)
      · have hrun := mif_p (bz_nz c_7) hrun
        refine lv_iconst (v := (0 : Int32)) hx hb dX5_roomOf_41 (by decide) ?_
        refine lv_istore (lv' := [(5, .int (0 : Int32)), (0, .ref (alo 0)), (2, .int x2_2), (3, .int x3_3), (4, .int x4_4)]) hx hb dX5_roomOf_42 hl (by decide) rfl (fun ls hl => ?_)
        obtain ⟨K_10, hK_10, hrun⟩ := mjn_s hrun
        have hj_8 : ∀ (x5_9 : Int32), ∀ ls : Array Slot, lv_has ls 6 [(0, .ref (alo 0)), (2, .int x2_2), (3, .int x3_3), (4, .int x4_4), (5, .int x5_9)] → K_10 x5_9 = some r → W p l e rX5_roomOf s m args below meth c s.heap [] 0 0 (MQ below (QRr (some (.int r))) args s 0 0 (fun _ => False)) (F0 m 86 ls []) := by
          intro x5_9 ls hl hrun
          rw [hK_10] at hrun
          refine lv_iload_n hx hb dX5_roomOf_86 rfl (lv_at hl 2 rfl) ?_
          refine lv_if_ne (tgt := 93) hx hb dX5_roomOf_87 (by decide) (fun c_11 => ?_) (fun c_11 => ?_)
          · have hrun := mif_n c_11 hrun
            refine lv_iload_n hx hb dX5_roomOf_93 rfl (lv_at hl 1 rfl) ?_
            refine lv_iconst (v := (1 : Int32)) hx hb dX5_roomOf_94 (by decide) ?_
            refine lv_iload hx hb dX5_roomOf_95 (lv_at hl 4 rfl) ?_
            refine lv_ishl hx hb dX5_roomOf_97 ?_
            refine lv_ior hx hb dX5_roomOf_98 ?_
            refine lv_istore_n (lv' := [(2, .int (x2_2 ||| ((1 : Int32) <<< (x5_9 &&& (31 : Int32))))), (0, .ref (alo 0)), (3, .int x3_3), (4, .int x4_4), (5, .int x5_9)]) hx hb dX5_roomOf_99 rfl hl (by decide) rfl (fun ls hl => ?_)
            refine lv_iinc (v := (x3_3 + (-1 : Int32))) (lv' := [(3, .int (x3_3 + (-1 : Int32))), (2, .int (x2_2 ||| ((1 : Int32) <<< (x5_9 &&& (31 : Int32))))), (0, .ref (alo 0)), (4, .int x4_4), (5, .int x5_9)]) hx hb dX5_roomOf_100 hl (k := 2) rfl rfl (by decide) rfl (fun ls hl => ?_)
            refine lv_iinc (v := (x4_4 + (1 : Int32))) (lv' := [(4, .int (x4_4 + (1 : Int32))), (3, .int (x3_3 + (-1 : Int32))), (2, .int (x2_2 ||| ((1 : Int32) <<< (x5_9 &&& (31 : Int32))))), (0, .ref (alo 0)), (5, .int x5_9)]) hx hb dX5_roomOf_103 hl (k := 3) rfl rfl (by decide) rfl (fun ls hl => ?_)
            refine lv_goto (tgt := 7) hx hb dX5_roomOf_106 (by decide) ?_
            exact ih (x2_2 ||| ((1 : Int32) <<< (x5_9 &&& (31 : Int32)))) (x3_3 + (-1 : Int32)) (x4_4 + (1 : Int32)) ls (lv_sub hl [3, 2, 1, 0] rfl) hrun
          have hrun := mif_p c_11 hrun
          refine lv_iload hx hb dX5_roomOf_90 (lv_at hl 4 rfl) ?_
          cases hrun
          exact retR_i hx hb hr hlocks rfl dX5_roomOf_92
        have hL_12 : ∀ n : Nat, ∀ (x5_13 : Int32), ∀ ls : Array Slot, lv_has ls 6 [(0, .ref (alo 0)), (2, .int x2_2), (3, .int x3_3), (4, .int x4_4), (5, .int x5_13)] → fX5_roomOf_L44 slo sh sw x4_4 x2_2 K_10 n x5_13 = some r → W p l e rX5_roomOf s m args below meth c s.heap [] 0 0 (MQ below (QRr (some (.int r))) args s 0 0 (fun _ => False)) (F0 m 44 ls []) := by
          intro n
          induction n with
          | zero =>
            intro x5_13 ls hl hrun
            exact nomatch hrun
          | succ n ih =>
            intro x5_13 ls hl hrun
            rw [fX5_roomOf_L44.eq_2] at hrun
            refine lv_aload_n hx hb dX5_roomOf_44 rfl (lv_at hl 0 rfl) ?_
            refine lv_iload hx hb dX5_roomOf_45 (lv_at hl 3 rfl) ?_
            refine lv_iload_n hx hb dX5_roomOf_47 rfl (lv_at hl 1 rfl) ?_
            refine lv_iload hx hb dX5_roomOf_48 (lv_at hl 4 rfl) ?_
            obtain ⟨r_15, hc_14, hrun⟩ := mob_s rfl hrun
            refine cRV (As := [.int x4_4, .int x2_2, .int x5_13]) (ci := 5) ⟨hx, hb, hml, hown, hts⟩ hOK hz va_S.rf hP (mtX5_can l D k ah alo aw adr aim ard asc ath awl atr Z hOK _ _ _ _ _ _ _ hc_14) (kX5_can hts q663 rfl rfl ⟨Nat.le_of_ble_eq_true rfl, Nat.le_of_ble_eq_true rfl⟩) 0 rfl rfl rfl hl.1 rfl (lv_room (Nat.le_of_ble_eq_true rfl)) ⟨Nat.le_of_ble_eq_true rfl, Nat.le_of_ble_eq_true rfl⟩ dX5_roomOf_50 ?_
            obtain ⟨K_19, hK_19, hrun⟩ := mjn_s hrun
            have hj_17 : ∀ (x5_18 : Int32), ∀ ls : Array Slot, lv_has ls 6 [(0, .ref (alo 0)), (2, .int x2_2), (3, .int x3_3), (4, .int x4_4), (5, .int x5_18)] → K_19 x5_18 = some r → W p l e rX5_roomOf s m args below meth c s.heap [] 0 0 (MQ below (QRr (some (.int r))) args s 0 0 (fun _ => False)) (F0 m 56 ls []) := by
              intro x5_18 ls hl hrun
              rw [hK_19] at hrun
              refine lv_aload_n hx hb dX5_roomOf_56 rfl (lv_at hl 0 rfl) ?_
              refine lv_iload hx hb dX5_roomOf_57 (lv_at hl 3 rfl) ?_
              refine lv_iload_n hx hb dX5_roomOf_59 rfl (lv_at hl 1 rfl) ?_
              refine lv_iload hx hb dX5_roomOf_60 (lv_at hl 4 rfl) ?_
              obtain ⟨r_21, hc_20, hrun⟩ := mob_s rfl hrun
              refine cRV (As := [.int x4_4, .int x2_2, .int x5_18]) (ci := 5) ⟨hx, hb, hml, hown, hts⟩ hOK hz va_S.rf hP (mtX5_by l D k ah alo aw adr aim ard asc ath awl atr Z hOK _ _ _ _ _ _ _ hc_20) (kX5_by hts q669 rfl rfl ⟨Nat.le_of_ble_eq_true rfl, Nat.le_of_ble_eq_true rfl⟩) 0 rfl rfl rfl hl.1 rfl (lv_room (Nat.le_of_ble_eq_true rfl)) ⟨Nat.le_of_ble_eq_true rfl, Nat.le_of_ble_eq_true rfl⟩ dX5_roomOf_62 ?_
              refine lv_aload_n hx hb dX5_roomOf_65 rfl (lv_at hl 0 rfl) ?_
              refine va_get (ci := 5) (v := .ref (alo 1)) (C := RX5) (T := TX5) (N := 2) hx hb hts in_X5 hown hK hP 0 rfl rfl 0 (by decide) (hts _ q362) (fun _ h9 => h9) rfl dX5_roomOf_66 ?_
              refine lv_aload_n hx hb dX5_roomOf_69 rfl (lv_at hl 0 rfl) ?_
              refine lv_iload hx hb dX5_roomOf_70 (lv_at hl 3 rfl) ?_
              refine lv_iload_n hx hb dX5_roomOf_72 rfl (lv_at hl 1 rfl) ?_
              obtain ⟨r_23, hc_22, hrun⟩ := mob_s rfl hrun
              refine cRV (As := [.int x4_4, .int x2_2]) (ci := 5) ⟨hx, hb, hml, hown, hts⟩ hOK hz va_S.rf (hP.sub (ws' := (cL k alo (ah 0) slo)) [0, 1] rfl) (mtX5_at l D k ah alo Z hOK _ _ _ _ hc_22) (kX5_at hts q654 rfl rfl ⟨Nat.le_of_ble_eq_true rfl, Nat.le_of_ble_eq_true rfl⟩) 0 rfl rfl rfl hl.1 rfl (lv_room (Nat.le_of_ble_eq_true rfl)) ⟨Nat.le_of_ble_eq_true rfl, Nat.le_of_ble_eq_true rfl⟩ dX5_roomOf_73 ?_
              obtain ⟨hb_24, hrun⟩ := mck_s rfl hrun
              refine va_iald hx hb hK hP 1 0 rfl rfl hb_24 dX5_roomOf_76 ?_
              refine lv_icmp_eq (tgt := 86) hx hb dX5_roomOf_77 (by decide) (fun c_25 => ?_) (fun c_25 => ?_)
              · have hrun := mif_p c_25 hrun
                exact hj_8 x5_18 ls (lv_sub hl [0, 1, 2, 3, 4] rfl) hrun
              have hrun := mif_n c_25 hrun
              refine lv_iinc (v := (x5_18 + (1 : Int32))) (lv' := [(5, .int (x5_18 + (1 : Int32))), (0, .ref (alo 0)), (2, .int x2_2), (3, .int x3_3), (4, .int x4_4)]) hx hb dX5_roomOf_80 hl (k := 4) rfl rfl (by decide) rfl (fun ls hl => ?_)
              refine lv_goto (tgt := 44) hx hb dX5_roomOf_83 (by decide) ?_
              exact ih (x5_18 + (1 : Int32)) ls (lv_sub hl [1, 2, 3, 4, 0] rfl) hrun
            refine lv_if_eq (tgt := 80) hx hb dX5_roomOf_53 (by decide) (fun c_16 => ?_) (fun c_16 => ?_)
            · have hrun := mif_n (bz_z c_16) hrun
              refine lv_iinc (v := (x5_13 + (1 : Int32))) (lv' := [(5, .int (x5_13 + (1 : Int32))), (0, .ref (alo 0)), (2, .int x2_2), (3, .int x3_3), (4, .int x4_4)]) hx hb dX5_roomOf_80 hl (k := 4) rfl rfl (by decide) rfl (fun ls hl => ?_)
              refine lv_goto (tgt := 44) hx hb dX5_roomOf_83 (by decide) ?_
              exact ih (x5_13 + (1 : Int32)) ls (lv_sub hl [1, 2, 3, 4, 0] rfl) hrun
            have hrun := mif_p (bz_nz c_16) hrun
            exact hj_17 x5_13 ls (lv_sub hl [0, 1, 2, 3, 4] rfl) hrun
        exact hL_12 mFU (0 : Int32) ls (lv_sub hl [1, 2, 3, 4, 0] rfl) hrun
      have hrun := mif_n (bz_z c_7) hrun
      refine lv_goto (tgt := 103) hx hb dX5_roomOf_38 (by decide) ?_
      refine lv_iinc (v := (x4_4 + (1 : Int32))) (lv' := [(4, .int (x4_4 + (1 : Int32))), (0, .ref (alo 0)), (2, .int x2_2), (3, .int x3_3)]) hx hb dX5_roomOf_103 hl (k := 3) rfl rfl (by decide) rfl (fun ls hl => ?_)
      refine lv_goto (tgt := 7) hx hb dX5_roomOf_106 (by decide) ?_
      exact ih x2_2 x3_3 (x4_4 + (1 : Int32)) ls (lv_sub hl [1, 2, 3, 0] rfl) hrun
  exact hL_1 mFU (0 : Int32) p1 (0 : Int32) ls (lv_sub hl [3, 2, 1, 0] rfl) hrun
