/-! DAYS -/
def rX1_days : Room := { frames := 31, cells := 10, slots := 326, locals := 1069 }
noncomputable def fX1_days_L24 (p1 : Int32) (K_14 : Wd → Sc → Option ((String × Wd × Sc) ⊕ (Int32 × Wd × Sc))) (Sm : zSem) (sh : Kp) : Nat → Int32 → Wd → Sc → Option ((String × Wd × Sc) ⊕ (Int32 × Wd × Sc))
  | 0, _, _, _ => none
  | n + 1, x3_16, sw_17, ssc_18 =>
    if p1 ≤ x3_16 then
      K_14 sw_17 ssc_18
    else
      mob (fX1_aDay Sm sh sw_17 ssc_18) fun q_23 =>
      fX1_days_L24 p1 K_14 Sm sh n (x3_16 + (1 : Int32)) (q_23.1) (q_23.2)
noncomputable def fX1_days (Sm : zSem) (sh : Kp) (sw : Wd) (ssc : Sc) (p1 : Int32) : Option ((String × Wd × Sc) ⊕ (Int32 × Wd × Sc)) :=
  mob (fX1_in p1 (1 : Int32) (60 : Int32)) fun r_2 =>
  mox (fX1_demand r_2) (fun E_5 => some (.inl (E_5, (sw, ssc)))) fun _ =>
  mjn (fun (sw_12 : Wd) (ssc_13 : Sc) =>
  some (.inr (((wd_seen sw_12) - (wd_seen sw)), (sw_12, ssc_13)))) fun K_14 =>
  fX1_days_L24 p1 K_14 Sm sh mFU (0 : Int32) sw ssc
theorem kX1_days {R : Room} {s : State} {args : Array Value} {own : String} {idx mc ms : Nat} {rm : Room} (hts : ∀ w ∈ lw_all, w.before args s = true) (hl : Cond.methodLink own idx yX1_days ∈ lw_all) (hrc : rm.cells = mc) (hrs : rm.slots = ms) (hR : rm.frames + 1 ≤ R.frames ∧ 8 + (4 + 11) + rm.locals ≤ R.locals) : CallW R s args own RX1 idx yX1_days cX1_days 4 (some .int) (ws_ yX1_days cX1_days 4 (some .int)) rm mc ms 1 :=
  cwV 1 hts (lw_V hl q1702 q1703 q107 q1704) rfl hrc hrs (by decide +kernel) hR
set_option maxHeartbeats 4000000 in
set_option maxRecDepth 100000 in
theorem mtX1_days (l : Launch) (D : va_G) (k : Nat → ClassId) (ah : Nat → Nat) (aw : Nat → Nat) (adr : Nat → Nat) (aim : Nat → Nat) (ard : Nat → Nat) (asc : Nat → Nat) (ath : Nat → Nat) (awl : Nat → Nat) (alo : Nat → Nat) (atr : Nat → Nat) (Z : zZ) (hOK : zOK D zCl (zTys k) Z) (hlt : l.stackTraces = false) (hTh : zTh Z) {e0 : Nat} {aF : Nat → Nat} (hFa : zFa Z aF) (hFw : zFw Z) (P : va_W) (Sm : zSem) (hPl : zPl k e0 aF P Sm) {mi : Nat} (hLs : zLs Z e0 mi) (us : List Wd) (w0 : va_W) (hw : wlP k e0 (awl 0) us w0) (sh : Kp) (sw : Wd) (ssc : Sc) (p1 : Int32) (o : (String × Wd × Sc) ⊕ (Int32 × Wd × Sc)) (hrun : fX1_days Sm sh sw ssc p1 = some o) :
    CtX l yX1_days cX1_days 4 (some .int) rX1_days Z D zCl (((cH k ah aw adr aim ard asc ath awl alo atr sh) ++ ((cW k aw sw) ++ (cS k asc ssc))) ++ (w0 ++ P)) [.ref (ah 0), .int p1] (fun r' w' => ∃ T_ : va_W, (∃ u0 ou : Wd, fX2_likens u0 sw = some ou ∧ wlP k e0 (awl 0) (puW us ou) T_) ∧ ∃ (r : Int32) (ow : Wd) (osc : Sc), o = .inr (r, (ow, osc)) ∧ r' = (some (.int r)) ∧ w' = (((cH k ah aw adr aim ard asc ath awl alo atr sh) ++ ((cW k aw ow) ++ (cS k asc osc))) ++ (T_ ++ P))) (fun E' w' => ∃ (ow : Wd) (osc : Sc), o = .inl (E', (ow, osc)) ∧ w' = (((cH k ah aw adr aim ard asc ath awl alo atr sh) ++ ((cW k aw ow) ++ (cS k asc osc))) ++ (w0 ++ P))) 10 326 := by
  refine CtX.of (by decide) (Nat.le_of_ble_eq_true rfl) ?_
  intro p e s m args below meth c A hE hnoh hA hP hD hS hz ls hl
  obtain ⟨hx, hb, hr, hml, hown, hts, hlocks, hname⟩ := hE
  have hown : s.vm.findClass RX1 = some m.cls := hown
  have hK := hOK.1 _ _ _ hz
  have hN := hOK.2.1 _ _ _ hz
  have hl : lv_has ls 4 [(0, .ref (ah 0)), (1, .int p1)] := hl
  unfold fX1_days at hrun
  refine lv_iload_n hx hb dX1_days_0 rfl (lv_at hl 1 rfl) ?_
  refine lv_iconst (v := (1 : Int32)) hx hb dX1_days_1 (by decide) ?_
  refine lv_bipush (v := (60 : Int32)) hx hb dX1_days_2 (by decide) ?_
  obtain ⟨r_2, hc_1, hrun⟩ := mob_s rfl hrun
  refine cRS (ws := []) (As := [.int p1, .int (1 : Int32), .int (60 : Int32)]) ⟨hx, hb, hml, hown, hts⟩ hOK hz hS zP0 (mtX1_in l D Z hOK _ _ _ _ hc_1) (kX1_in hts q647 rfl rfl ⟨Nat.le_of_ble_eq_true rfl, Nat.le_of_ble_eq_true rfl⟩) rfl hl.1 rfl (lv_room (Nat.le_of_ble_eq_true rfl)) ⟨Nat.le_of_ble_eq_true rfl, Nat.le_of_ble_eq_true rfl⟩ dX1_days_4 ?_
  obtain ⟨o_4, hc_3, hrun⟩ := mox_s rfl hrun
  rcases Bool.eq_false_or_eq_true r_2 with hv_ | hv_
  case inr =>
    have hP : va_P D zCl ([] ++ ([] ++ (((cH k ah aw adr aim ard asc ath awl alo atr sh) ++ ((cW k aw sw) ++ (cS k asc ssc))) ++ (w0 ++ P)))) _ := hP
    have hD : va_D A ([] ++ ([] ++ (((cH k ah aw adr aim ard asc ath awl alo atr sh) ++ ((cW k aw sw) ++ (cS k asc ssc))) ++ (w0 ++ P)))) := hD
    refine cXS [] [] (((cH k ah aw adr aim ard asc ath awl alo atr sh) ++ ((cW k aw sw) ++ (cS k asc ssc))) ++ (w0 ++ P)) (As := [.int (bz r_2)]) ⟨hx, hb, hml, hown, hts⟩ hOK hz hS hA hP hD (mtX1_demand l D Z hOK hlt hTh _ o_4 hc_3) (kX1_demand hts q1627 rfl rfl ⟨Nat.le_of_ble_eq_true rfl, Nat.le_of_ble_eq_true rfl⟩) rfl hl.1 rfl (lv_room (Nat.le_of_ble_eq_true rfl)) ⟨Nat.le_of_ble_eq_true rfl, Nat.le_of_ble_eq_true rfl⟩ dX1_days_7 (fun E_ w_ ce_ q9_ H locs hq hP hD hS hce hcv hcl => ?_) (fun r_ w_ H locs hq hP hD hS => ?_)
    · obtain ⟨rfl, rfl⟩ := hq
      have hrun := moxl hrun
      cases hrun
      have hP : va_P D zCl (((cH k ah aw adr aim ard asc ath awl alo atr sh) ++ ((cW k aw sw) ++ (cS k asc ssc))) ++ (w0 ++ P)) _ := hP
      have hD : va_D A (((cH k ah aw adr aim ard asc ath awl alo atr sh) ++ ((cW k aw sw) ++ (cS k asc ssc))) ++ (w0 ++ P)) := hD
      exact zout hnoh hlocks hce hcv hcl hP hD hS ⟨_, _, rfl, rfl⟩ (Nat.le_of_ble_eq_true rfl) (Nat.le_of_ble_eq_true rfl)
    · obtain ⟨rfl, rfl, rfl⟩ := hq
      exact absurd (dem_f hv_ hc_3) (by simp)
  obtain rfl := dem_t hv_ hc_3
  refine cRS (ws := []) (As := [.int (bz r_2)]) ⟨hx, hb, hml, hown, hts⟩ hOK hz hS zP0 (mtX1_demand_t l D Z hOK r_2 hv_) (kX1_demand hts q1627 rfl rfl ⟨Nat.le_of_ble_eq_true rfl, Nat.le_of_ble_eq_true rfl⟩) rfl hl.1 rfl (lv_room (Nat.le_of_ble_eq_true rfl)) ⟨Nat.le_of_ble_eq_true rfl, Nat.le_of_ble_eq_true rfl⟩ dX1_days_7 ?_
  have hrun := moxr hrun
  refine lv_aload_n hx hb dX1_days_10 rfl (lv_at hl 0 rfl) ?_
  have hP := zsP [(cH k ah aw adr aim ard asc ath awl alo atr sh), (cW k aw sw), (cS k asc ssc), w0, P] 5 [2, 4] [0, 1, 3] hP rfl (by decide)
  have hD := zsD [(cH k ah aw adr aim ard asc ath awl alo atr sh), (cW k aw sw), (cS k asc ssc), w0, P] 5 [2, 4] [0, 1, 3] hD rfl (by decide)
  have hP : va_P D zCl (((cS k asc ssc) ++ P) ++ (((cH k ah aw adr aim ard asc ath awl alo atr sh) ++ (cW k aw sw)) ++ w0)) _ := hP
  have hD : va_D A (((cS k asc ssc) ++ P) ++ (((cH k ah aw adr aim ard asc ath awl alo atr sh) ++ (cW k aw sw)) ++ w0)) := hD
  refine cWVP ((cS k asc ssc) ++ P) (((cH k ah aw adr aim ard asc ath awl alo atr sh) ++ (cW k aw sw)) ++ w0) (As := []) (ci := 1) ⟨hx, hb, hml, hown, hts⟩ hOK hz hS hA hP hD (mtX1_remembers l D k ah aw adr aim ard asc ath awl alo atr Z hOK hLs _ _ us w0 hw) (kX1_remembers hts q1637 rfl rfl ⟨Nat.le_of_ble_eq_true rfl, Nat.le_of_ble_eq_true rfl⟩) 0 rfl rfl rfl hl.1 rfl (lv_room (Nat.le_of_ble_eq_true rfl)) ⟨Nat.le_of_ble_eq_true rfl, Nat.le_of_ble_eq_true rfl⟩ dX1_days_11 (fun r_ w_ H locs hq hP hD hS => ?_)
  obtain ⟨T_6, ub_7, ul_8, hli_9, hwl_10, rfl, rfl⟩ := hq
  have hP := zjP [(cS k asc ssc), P] [(cH k ah aw adr aim ard asc ath awl alo atr sh), (cW k aw sw), T_6] hP
  have hP := zbP [(cS k asc ssc), P, (cH k ah aw adr aim ard asc ath awl alo atr sh), (cW k aw sw), T_6] 5 [2, 3, 0, 4, 1] hP rfl (by decide)
  have hD := zjD [(cS k asc ssc), P] [(cH k ah aw adr aim ard asc ath awl alo atr sh), (cW k aw sw), T_6] hD
  have hD := zbD [(cS k asc ssc), P, (cH k ah aw adr aim ard asc ath awl alo atr sh), (cW k aw sw), T_6] 5 [2, 3, 0, 4, 1] hD rfl (by decide)
  have hP : va_P D zCl (((cH k ah aw adr aim ard asc ath awl alo atr sh) ++ ((cW k aw sw) ++ (cS k asc ssc))) ++ (T_6 ++ P)) _ := hP
  have hD : va_D A (((cH k ah aw adr aim ard asc ath awl alo atr sh) ++ ((cW k aw sw) ++ (cS k asc ssc))) ++ (T_6 ++ P)) := hD
  refine lv_aload_n hx hb dX1_days_14 rfl (lv_at hl 0 rfl) ?_
  refine va_get (ci := 1) (v := .ref (aw 0)) (C := RX1) (T := TX1) (N := 10) hx hb hts in_X1 hown hK hP 0 rfl rfl 0 (by decide) (hts _ q370) (fun _ h9 => h9) rfl dX1_days_15 ?_
  refine va_getN (ci := 2) (v := .int (wd_seen sw)) (C := RX2) (T := TX2) (N := 21) hx hb hts in_X2 hown hK hP 1 rfl rfl 9 (by decide) (va_Nw.use rfl (hN _ (zN_of q183 rfl))) (fun _ h9 => h9) rfl dX1_days_18 ?_
  refine lv_istore_n (lv' := [(2, .int (wd_seen sw)), (0, .ref (ah 0)), (1, .int p1)]) hx hb dX1_days_21 rfl hl (by decide) rfl (fun ls hl => ?_)
  refine lv_iconst (v := (0 : Int32)) hx hb dX1_days_22 (by decide) ?_
  refine lv_istore_n (lv' := [(3, .int (0 : Int32)), (2, .int (wd_seen sw)), (0, .ref (ah 0)), (1, .int p1)]) hx hb dX1_days_23 rfl hl (by decide) rfl (fun ls hl => ?_)
  obtain ⟨K_14, hK_14, hrun⟩ := mjn_s hrun
  have hj_11 : ∀ (sw_12 : Wd) (ssc_13 : Sc), ∀ (H : Heap) (locs : List Loc), va_P D zCl (((cH k ah aw adr aim ard asc ath awl alo atr sh) ++ ((cW k aw sw_12) ++ (cS k asc ssc_13))) ++ (T_6 ++ P)) H → va_D A (((cH k ah aw adr aim ard asc ath awl alo atr sh) ++ ((cW k aw sw_12) ++ (cS k asc ssc_13))) ++ (T_6 ++ P)) → va_S A s.heap H locs → ∀ ls : Array Slot, lv_has ls 4 [(0, .ref (ah 0)), (2, .int (wd_seen sw))] → K_14 sw_12 ssc_13 = some o → W p l e rX1_days s m args below meth c H locs 10 326 (vx_MQ below (QWr (fun r' w' => ∃ T_ : va_W, (∃ u0 ou : Wd, fX2_likens u0 sw = some ou ∧ wlP k e0 (awl 0) (puW us ou) T_) ∧ ∃ (r : Int32) (ow : Wd) (osc : Sc), o = .inr (r, (ow, osc)) ∧ r' = (some (.int r)) ∧ w' = (((cH k ah aw adr aim ard asc ath awl alo atr sh) ++ ((cW k aw ow) ++ (cS k asc osc))) ++ (T_ ++ P))) D zCl A) (QXr (fun E' w' => ∃ (ow : Wd) (osc : Sc), o = .inl (E', (ow, osc)) ∧ w' = (((cH k ah aw adr aim ard asc ath awl alo atr sh) ++ ((cW k aw ow) ++ (cS k asc osc))) ++ (w0 ++ P))) D zCl A) args s 10 326 A) (F0 m 43 ls []) := by
    intro sw_12 ssc_13 H locs hP hD hS ls hl hrun
    rw [hK_14] at hrun
    refine lv_aload_n hx hb dX1_days_43 rfl (lv_at hl 0 rfl) ?_
    refine va_get (ci := 1) (v := .ref (aw 0)) (C := RX1) (T := TX1) (N := 10) hx hb hts in_X1 hown hK hP 0 rfl rfl 0 (by decide) (hts _ q370) (fun _ h9 => h9) rfl dX1_days_44 ?_
    refine va_getN (ci := 2) (v := .int (wd_seen sw_12)) (C := RX2) (T := TX2) (N := 21) hx hb hts in_X2 hown hK hP 1 rfl rfl 9 (by decide) (va_Nw.use rfl (hN _ (zN_of q183 rfl))) (fun _ h9 => h9) rfl dX1_days_47 ?_
    refine lv_iload_n hx hb dX1_days_50 rfl (lv_at hl 1 rfl) ?_
    refine lv_isub hx hb dX1_days_51 ?_
    cases hrun
    refine W.widen (k := 10) (n := 326) (Nat.le_of_ble_eq_true rfl) (Nat.le_of_ble_eq_true rfl) ?_
    exact vx_ret (retW_i hx hb hr hlocks hP hD hS ⟨T_6, ⟨ub_7, ul_8, hli_9, hwl_10⟩, _, _, _, rfl, rfl, rfl⟩ dX1_days_52)
  have hL_15 : ∀ n : Nat, ∀ (x3_16 : Int32) (sw_17 : Wd) (ssc_18 : Sc), ∀ (H : Heap) (locs : List Loc), va_P D zCl (((cH k ah aw adr aim ard asc ath awl alo atr sh) ++ ((cW k aw sw_17) ++ (cS k asc ssc_18))) ++ (T_6 ++ P)) H → va_D A (((cH k ah aw adr aim ard asc ath awl alo atr sh) ++ ((cW k aw sw_17) ++ (cS k asc ssc_18))) ++ (T_6 ++ P)) → va_S A s.heap H locs → ∀ ls : Array Slot, lv_has ls 4 [(0, .ref (ah 0)), (1, .int p1), (2, .int (wd_seen sw)), (3, .int x3_16)] → fX1_days_L24 p1 K_14 Sm sh n x3_16 sw_17 ssc_18 = some o → W p l e rX1_days s m args below meth c H locs 10 326 (vx_MQ below (QWr (fun r' w' => ∃ T_ : va_W, (∃ u0 ou : Wd, fX2_likens u0 sw = some ou ∧ wlP k e0 (awl 0) (puW us ou) T_) ∧ ∃ (r : Int32) (ow : Wd) (osc : Sc), o = .inr (r, (ow, osc)) ∧ r' = (some (.int r)) ∧ w' = (((cH k ah aw adr aim ard asc ath awl alo atr sh) ++ ((cW k aw ow) ++ (cS k asc osc))) ++ (T_ ++ P))) D zCl A) (QXr (fun E' w' => ∃ (ow : Wd) (osc : Sc), o = .inl (E', (ow, osc)) ∧ w' = (((cH k ah aw adr aim ard asc ath awl alo atr sh) ++ ((cW k aw ow) ++ (cS k asc osc))) ++ (w0 ++ P))) D zCl A) args s 10 326 A) (F0 m 24 ls []) := by
    intro n
    induction n with
    | zero =>
      intro x3_16 sw_17 ssc_18 H locs hP hD hS ls hl hrun
      exact nomatch hrun
    | succ n ih =>
      intro x3_16 sw_17 ssc_18 H locs hP hD hS ls hl hrun
      rw [fX1_days_L24.eq_2] at hrun
      refine lv_iload_n hx hb dX1_days_24 rfl (lv_at hl 3 rfl) ?_
      refine lv_iload_n hx hb dX1_days_25 rfl (lv_at hl 1 rfl) ?_
      refine lv_icmp_ge (tgt := 43) hx hb dX1_days_26 (by decide) (fun c_19 => ?_) (fun c_19 => ?_)
      · have hrun := mif_p c_19 hrun
        exact hj_11 sw_17 ssc_18 _ _ hP hD hS ls (lv_sub hl [0, 2] rfl) hrun
      have hrun := mif_n c_19 hrun
      refine lv_aload_n hx hb dX1_days_29 rfl (lv_at hl 0 rfl) ?_
      refine lv_aload_n hx hb dX1_days_30 rfl (lv_at hl 0 rfl) ?_
      refine va_get (ci := 1) (v := .ref (aw 0)) (C := RX1) (T := TX1) (N := 10) hx hb hts in_X1 hown hK hP 0 rfl rfl 0 (by decide) (hts _ q370) (fun _ h9 => h9) rfl dX1_days_31 ?_
      obtain ⟨⟨sw_21, ssc_22⟩, hc_20, hrun⟩ := mob_s rfl hrun
      have hP := zsP [(cH k ah aw adr aim ard asc ath awl alo atr sh), (cW k aw sw_17), (cS k asc ssc_18), (T_6), (P)] 5 [3] [0, 1, 2, 4] hP rfl (by decide)
      have hD := zsD [(cH k ah aw adr aim ard asc ath awl alo atr sh), (cW k aw sw_17), (cS k asc ssc_18), (T_6), (P)] 5 [3] [0, 1, 2, 4] hD rfl (by decide)
      have hP : va_P D zCl (T_6 ++ (((cH k ah aw adr aim ard asc ath awl alo atr sh) ++ ((cW k aw sw_17) ++ (cS k asc ssc_18))) ++ P)) _ := hP
      have hD : va_D A (T_6 ++ (((cH k ah aw adr aim ard asc ath awl alo atr sh) ++ ((cW k aw sw_17) ++ (cS k asc ssc_18))) ++ P)) := hD
      refine cWVP T_6 (((cH k ah aw adr aim ard asc ath awl alo atr sh) ++ ((cW k aw sw_17) ++ (cS k asc ssc_18))) ++ P) (As := [.ref (aw 0)]) (ci := 1) ⟨hx, hb, hml, hown, hts⟩ hOK hz hS hA hP hD (mtX1_aDay l D k ah aw adr aim ard asc ath awl alo atr aw Z hOK hFa hFw P Sm hPl _ _ _ _ _ hc_20) (kX1_aDay hts q1705 rfl rfl ⟨Nat.le_of_ble_eq_true rfl, Nat.le_of_ble_eq_true rfl⟩) 0 rfl rfl rfl hl.1 rfl (lv_room (Nat.le_of_ble_eq_true rfl)) ⟨Nat.le_of_ble_eq_true rfl, Nat.le_of_ble_eq_true rfl⟩ dX1_days_34 (fun r_ w_ H locs hq hP hD hS => ?_)
      obtain ⟨rfl, rfl⟩ := hq
      have hP := zjP [T_6] [(cH k ah aw adr aim ard asc ath awl alo atr sh), (cW k aw sw_21), (cS k asc ssc_22), P] hP
      have hP := zbP [T_6, (cH k ah aw adr aim ard asc ath awl alo atr sh), (cW k aw sw_21), (cS k asc ssc_22), P] 5 [1, 2, 3, 0, 4] hP rfl (by decide)
      have hD := zjD [T_6] [(cH k ah aw adr aim ard asc ath awl alo atr sh), (cW k aw sw_21), (cS k asc ssc_22), P] hD
      have hD := zbD [T_6, (cH k ah aw adr aim ard asc ath awl alo atr sh), (cW k aw sw_21), (cS k asc ssc_22), P] 5 [1, 2, 3, 0, 4] hD rfl (by decide)
      have hP : va_P D zCl (((cH k ah aw adr aim ard asc ath awl alo atr sh) ++ ((cW k aw sw_21) ++ (cS k asc ssc_22))) ++ (T_6 ++ P)) _ := hP
      have hD : va_D A (((cH k ah aw adr aim ard asc ath awl alo atr sh) ++ ((cW k aw sw_21) ++ (cS k asc ssc_22))) ++ (T_6 ++ P)) := hD
      refine lv_iinc (v := (x3_16 + (1 : Int32))) (lv' := [(3, .int (x3_16 + (1 : Int32))), (0, .ref (ah 0)), (1, .int p1), (2, .int (wd_seen sw))]) hx hb dX1_days_37 hl (k := 3) rfl rfl (by decide) rfl (fun ls hl => ?_)
      refine lv_goto (tgt := 24) hx hb dX1_days_40 (by decide) ?_
      exact ih (x3_16 + (1 : Int32)) sw_21 ssc_22 _ _ hP hD hS ls (lv_sub hl [1, 2, 3, 0] rfl) hrun
  exact hL_15 mFU (0 : Int32) sw ssc _ _ hP hD hS ls (lv_sub hl [2, 3, 1, 0] rfl) hrun
