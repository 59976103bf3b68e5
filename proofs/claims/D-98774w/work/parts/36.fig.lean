/-! NUMBERS -/
def rX3_figures : Room := { frames := 5, cells := 1, slots := 6, locals := 140 }
noncomputable def fX3_figures_L7 (p3 : Int32) (K_6 : Int32 → Rd → Option ((String × Rd) ⊕ (Int32 × Rd))) : Nat → Int32 → Rd → Option ((String × Rd) ⊕ (Int32 × Rd))
  | 0, _, _ => none
  | n + 1, x4_13, srd_14 =>
    mob (fX3_byteAt srd_14 (rd_at_ srd_14)) fun r_16 =>
    mob (fX1_in r_16 (48 : Int32) (57 : Int32)) fun r_18 =>
    if r_18 = true then
      mjn (fun (y_22 : Int32) =>
      mlt ((rd_at_ srd_14) + (1 : Int32)) fun v_24 =>
      mlt (rd_s_at_ srd_14 v_24) fun srd_25 =>
      fX3_figures_L7 p3 K_6 n y_22 srd_25) fun K_23 =>
      if p3 ≤ ((rd_at_ srd_14) - (rd_begin srd_14)) then
        K_23 x4_13
      else
        mob (fX3_byteAt srd_14 (rd_at_ srd_14)) fun r_27 =>
        K_23 ((((10 : Int32) * x4_13) + r_27) - (48 : Int32))
    else
      K_6 x4_13 srd_14
noncomputable def fX3_figures (srd : Rd) (p1 : Int32) (p2 : Int32) (p3 : Int32) : Option ((String × Rd) ⊕ (Int32 × Rd)) :=
  mob (fX3_blanks srd) fun srd_2 =>
  mjn (fun (x4_4 : Int32) (srd_5 : Rd) =>
  if (rd_at_ srd_5) = (rd_begin srd_5) then
    some (.inl ("SaturdayKeep$Wrong", srd_5))
  else
    if p3 < ((rd_at_ srd_5) - (rd_begin srd_5)) then
      some (.inl ("SaturdayKeep$Wrong", srd_5))
    else
      mob (fX1_in x4_4 p1 p2) fun r_10 =>
      if r_10 = true then
        some (.inr (x4_4, srd_5))
      else
        some (.inl ("SaturdayKeep$Wrong", srd_5))) fun K_6 =>
  fX3_figures_L7 p3 K_6 mFU (0 : Int32) srd_2
theorem kX3_figures {R : Room} {s : State} {args : Array Value} {own : String} {idx mc ms : Nat} {rm : Room} (hts : ∀ w ∈ lw_all, w.before args s = true) (hl : Cond.methodLink own idx yX3_figures ∈ lw_all) (hrc : rm.cells = mc) (hrs : rm.slots = ms) (hR : rm.frames + 1 ≤ R.frames ∧ 8 + (5 + 11) + rm.locals ≤ R.locals) : CallW R s args own RX3 idx yX3_figures cX3_figures 5 (some .int) (ws_ yX3_figures cX3_figures 5 (some .int)) rm mc ms 3 :=
  cwV 3 hts (lw_V hl q1237 q1238 q109 q1239) rfl hrc hrs (by decide +kernel) hR
set_option maxHeartbeats 4000000 in
set_option maxRecDepth 100000 in
theorem mtX3_figures (l : Launch) (D : va_G) (k : Nat → ClassId) (ard : Nat → Nat) (Z : zZ) (hOK : zOK D zCl (zTys k) Z) (hlt : l.stackTraces = false) (hTh : zTh Z) (srd : Rd) (p1 : Int32) (p2 : Int32) (p3 : Int32) (o : (String × Rd) ⊕ (Int32 × Rd)) (hrun : fX3_figures srd p1 p2 p3 = some o) :
    CtX l yX3_figures cX3_figures 5 (some .int) rX3_figures Z D zCl (cR k ard srd) [.ref (ard 0), .int p1, .int p2, .int p3] (fun r' w' => ∃ (r : Int32) (ord : Rd), o = .inr (r, ord) ∧ r' = (some (.int r)) ∧ w' = (cR k ard ord)) (fun E' w' => ∃ (ord : Rd), o = .inl (E', ord) ∧ w' = (cR k ard ord)) 1 6 := by
  refine CtX.of (by decide) (Nat.le_of_ble_eq_true rfl) ?_
  intro p e s m args below meth c A hE hnoh hA hP hD hS hz ls hl
  obtain ⟨hx, hb, hr, hml, hown, hts, hlocks, hname⟩ := hE
  have hown : s.vm.findClass RX3 = some m.cls := hown
  have hK := hOK.1 _ _ _ hz
  have hN := hOK.2.1 _ _ _ hz
  have hl : lv_has ls 5 [(0, .ref (ard 0)), (1, .int p1), (2, .int p2), (3, .int p3)] := hl
  unfold fX3_figures at hrun
  refine lv_aload_n hx hb dX3_figures_0 rfl (lv_at hl 0 rfl) ?_
  obtain ⟨srd_2, hc_1, hrun⟩ := mob_s rfl hrun
  refine cWV0 (As := []) (ci := 3) ⟨hx, hb, hml, hown, hts⟩ hOK hz hS hA hP hD (mtX3_blanks l D k ard Z hOK _ _ hc_1) (kX3_blanks hts q771 rfl rfl ⟨Nat.le_of_ble_eq_true rfl, Nat.le_of_ble_eq_true rfl⟩) 0 rfl rfl rfl hl.1 rfl (lv_room (Nat.le_of_ble_eq_true rfl)) ⟨Nat.le_of_ble_eq_true rfl, Nat.le_of_ble_eq_true rfl⟩ dX3_figures_1 (fun r_ w_ H locs hq hP hD hS => ?_)
  obtain ⟨rfl, rfl⟩ := hq
  refine lv_iconst (v := (0 : Int32)) hx hb dX3_figures_4 (by decide) ?_
  refine lv_istore (lv' := [(4, .int (0 : Int32)), (0, .ref (ard 0)), (1, .int p1), (2, .int p2), (3, .int p3)]) hx hb dX3_figures_5 hl (by decide) rfl (fun ls hl => ?_)
  obtain ⟨K_6, hK_6, hrun⟩ := mjn_s hrun
  have hj_3 : ∀ (x4_4 : Int32) (srd_5 : Rd), ∀ (H : Heap) (locs : List Loc), va_P D zCl (cR k ard srd_5) H → va_D A (cR k ard srd_5) → va_S A s.heap H locs → ∀ ls : Array Slot, lv_has ls 5 [(0, .ref (ard 0)), (1, .int p1), (2, .int p2), (3, .int p3), (4, .int x4_4)] → K_6 x4_4 srd_5 = some o → W p l e rX3_figures s m args below meth c H locs 0 0 (vx_MQ below (QWr (fun r' w' => ∃ (r : Int32) (ord : Rd), o = .inr (r, ord) ∧ r' = (some (.int r)) ∧ w' = (cR k ard ord)) D zCl A) (QXr (fun E' w' => ∃ (ord : Rd), o = .inl (E', ord) ∧ w' = (cR k ard ord)) D zCl A) args s 1 6 A) (F0 m 75 ls []) := by
    intro x4_4 srd_5 H locs hP hD hS ls hl hrun
    rw [hK_6] at hrun
    refine lv_aload_n hx hb dX3_figures_75 rfl (lv_at hl 0 rfl) ?_
    refine va_get (ci := 3) (v := .int (rd_at_ srd_5)) (C := RX3) (T := TX3) (N := 7) hx hb hts in_X3 hown hK hP 0 rfl rfl 3 (by decide) (hts _ q265) (fun _ h9 => h9) rfl dX3_figures_76 ?_
    refine lv_aload_n hx hb dX3_figures_79 rfl (lv_at hl 0 rfl) ?_
    refine va_get (ci := 3) (v := .int (rd_begin srd_5)) (C := RX3) (T := TX3) (N := 7) hx hb hts in_X3 hown hK hP 0 rfl rfl 4 (by decide) (hts _ q266) (fun _ h9 => h9) rfl dX3_figures_80 ?_
    refine lv_icmp_eq (tgt := 109) hx hb dX3_figures_83 (by decide) (fun c_7 => ?_) (fun c_7 => ?_)
    · have hrun := mif_p c_7 hrun
      refine lv_aload_n hx hb dX3_figures_109 rfl (lv_at hl 0 rfl) ?_
      cases hrun
      have hP : va_P D zCl ([] ++ ((cR k ard srd_5) ++ [])) _ := hP
      have hD : va_D A ([] ++ ((cR k ard srd_5) ++ [])) := hD
      refine cWV [] (cR k ard srd_5) [] (As := []) (ci := 3) ⟨hx, hb, hml, hown, hts⟩ hOK hz hS hA hP hD (mtX3_wrongR l D k Z hOK hTh ard srd_5) (kX3_wrong hts q1240 rfl rfl ⟨Nat.le_of_ble_eq_true rfl, Nat.le_of_ble_eq_true rfl⟩) 0 rfl rfl rfl hl.1 rfl (lv_room (Nat.le_of_ble_eq_true rfl)) ⟨(Nat.le_of_ble_eq_true rfl), (Nat.le_of_ble_eq_true rfl)⟩ dX3_figures_110 (fun r_ w_ H locs hq hP hD hS => ?_)
      obtain ⟨qw_, rfl, rfl⟩ := hq
      obtain ⟨ce_, hce_, hcv_, hcl_⟩ := zWr hK hP 2 rfl
      refine vx_athrow hx hb dX3_figures_113 ?_
      have hP := hP.sub (ws' := (cR k ard srd_5)) [0, 1] rfl
      have hD := hD.sub (ws' := (cR k ard srd_5)) [0, 1] (by decide) rfl
      exact zout hnoh hlocks hce_ hcv_ hcl_ hP hD hS ⟨_, rfl, rfl⟩ (Nat.le_of_ble_eq_true rfl) (Nat.le_of_ble_eq_true rfl)
    have hrun := mif_n c_7 hrun
    refine lv_aload_n hx hb dX3_figures_86 rfl (lv_at hl 0 rfl) ?_
    refine va_get (ci := 3) (v := .int (rd_at_ srd_5)) (C := RX3) (T := TX3) (N := 7) hx hb hts in_X3 hown hK hP 0 rfl rfl 3 (by decide) (hts _ q265) (fun _ h9 => h9) rfl dX3_figures_87 ?_
    refine lv_aload_n hx hb dX3_figures_90 rfl (lv_at hl 0 rfl) ?_
    refine va_get (ci := 3) (v := .int (rd_begin srd_5)) (C := RX3) (T := TX3) (N := 7) hx hb hts in_X3 hown hK hP 0 rfl rfl 4 (by decide) (hts _ q266) (fun _ h9 => h9) rfl dX3_figures_91 ?_
    refine lv_isub hx hb dX3_figures_94 ?_
    refine lv_iload_n hx hb dX3_figures_95 rfl (lv_at hl 3 rfl) ?_
    refine lv_icmp_gt (tgt := 109) hx hb dX3_figures_96 (by decide) (fun c_8 => ?_) (fun c_8 => ?_)
    · have hrun := mif_p c_8 hrun
      refine lv_aload_n hx hb dX3_figures_109 rfl (lv_at hl 0 rfl) ?_
      cases hrun
      have hP : va_P D zCl ([] ++ ((cR k ard srd_5) ++ [])) _ := hP
      have hD : va_D A ([] ++ ((cR k ard srd_5) ++ [])) := hD
      refine cWV [] (cR k ard srd_5) [] (As := []) (ci := 3) ⟨hx, hb, hml, hown, hts⟩ hOK hz hS hA hP hD (mtX3_wrongR l D k Z hOK hTh ard srd_5) (kX3_wrong hts q1240 rfl rfl ⟨Nat.le_of_ble_eq_true rfl, Nat.le_of_ble_eq_true rfl⟩) 0 rfl rfl rfl hl.1 rfl (lv_room (Nat.le_of_ble_eq_true rfl)) ⟨(Nat.le_of_ble_eq_true rfl), (Nat.le_of_ble_eq_true rfl)⟩ dX3_figures_110 (fun r_ w_ H locs hq hP hD hS => ?_)
      obtain ⟨qw_, rfl, rfl⟩ := hq
      obtain ⟨ce_, hce_, hcv_, hcl_⟩ := zWr hK hP 2 rfl
      refine vx_athrow hx hb dX3_figures_113 ?_
      have hP := hP.sub (ws' := (cR k ard srd_5)) [0, 1] rfl
      have hD := hD.sub (ws' := (cR k ard srd_5)) [0, 1] (by decide) rfl
      exact zout hnoh hlocks hce_ hcv_ hcl_ hP hD hS ⟨_, rfl, rfl⟩ (Nat.le_of_ble_eq_true rfl) (Nat.le_of_ble_eq_true rfl)
    have hrun := mif_n c_8 hrun
    refine lv_iload hx hb dX3_figures_99 (lv_at hl 4 rfl) ?_
    refine lv_iload_n hx hb dX3_figures_101 rfl (lv_at hl 1 rfl) ?_
    refine lv_iload_n hx hb dX3_figures_102 rfl (lv_at hl 2 rfl) ?_
    obtain ⟨r_10, hc_9, hrun⟩ := mob_s rfl hrun
    refine cRSN (ws := []) (As := [.int x4_4, .int p1, .int p2]) ⟨hx, hb, hml, hown, hts⟩ hOK hz hS zP0 (mtX1_in l D Z hOK _ _ _ _ hc_9) (kX1_inn hN hts (hN _ (zN_of q787 rfl)) rfl rfl ⟨Nat.le_of_ble_eq_true rfl, Nat.le_of_ble_eq_true rfl⟩) rfl hl.1 rfl (lv_room (Nat.le_of_ble_eq_true rfl)) ⟨Nat.le_of_ble_eq_true rfl, Nat.le_of_ble_eq_true rfl⟩ dX3_figures_103 ?_
    refine lv_if_ne (tgt := 114) hx hb dX3_figures_106 (by decide) (fun c_11 => ?_) (fun c_11 => ?_)
    · have hrun := mif_p (bz_nz c_11) hrun
      refine lv_iload hx hb dX3_figures_114 (lv_at hl 4 rfl) ?_
      cases hrun
      refine W.widen (k := 1) (n := 6) (Nat.le_of_ble_eq_true rfl) (Nat.le_of_ble_eq_true rfl) ?_
      exact vx_ret (retW_i hx hb hr hlocks hP hD hS ⟨_, _, rfl, rfl, rfl⟩ dX3_figures_116)
    have hrun := mif_n (bz_z c_11) hrun
    refine lv_aload_n hx hb dX3_figures_109 rfl (lv_at hl 0 rfl) ?_
    cases hrun
    have hP : va_P D zCl ([] ++ ((cR k ard srd_5) ++ [])) _ := hP
    have hD : va_D A ([] ++ ((cR k ard srd_5) ++ [])) := hD
    refine cWV [] (cR k ard srd_5) [] (As := []) (ci := 3) ⟨hx, hb, hml, hown, hts⟩ hOK hz hS hA hP hD (mtX3_wrongR l D k Z hOK hTh ard srd_5) (kX3_wrong hts q1240 rfl rfl ⟨Nat.le_of_ble_eq_true rfl, Nat.le_of_ble_eq_true rfl⟩) 0 rfl rfl rfl hl.1 rfl (lv_room (Nat.le_of_ble_eq_true rfl)) ⟨(Nat.le_of_ble_eq_true rfl), (Nat.le_of_ble_eq_true rfl)⟩ dX3_figures_110 (fun r_ w_ H locs hq hP hD hS => ?_)
    obtain ⟨qw_, rfl, rfl⟩ := hq
    obtain ⟨ce_, hce_, hcv_, hcl_⟩ := zWr hK hP 2 rfl
    refine vx_athrow hx hb dX3_figures_113 ?_
    have hP := hP.sub (ws' := (cR k ard srd_5)) [0, 1] rfl
    have hD := hD.sub (ws' := (cR k ard srd_5)) [0, 1] (by decide) rfl
    exact zout hnoh hlocks hce_ hcv_ hcl_ hP hD hS ⟨_, rfl, rfl⟩ (Nat.le_of_ble_eq_true rfl) (Nat.le_of_ble_eq_true rfl)
  have hL_12 : ∀ n : Nat, ∀ (x4_13 : Int32) (srd_14 : Rd), ∀ (H : Heap) (locs : List Loc), va_P D zCl (cR k ard srd_14) H → va_D A (cR k ard srd_14) → va_S A s.heap H locs → ∀ ls : Array Slot, lv_has ls 5 [(0, .ref (ard 0)), (1, .int p1), (2, .int p2), (3, .int p3), (4, .int x4_13)] → fX3_figures_L7 p3 K_6 n x4_13 srd_14 = some o → W p l e rX3_figures s m args below meth c H locs 0 0 (vx_MQ below (QWr (fun r' w' => ∃ (r : Int32) (ord : Rd), o = .inr (r, ord) ∧ r' = (some (.int r)) ∧ w' = (cR k ard ord)) D zCl A) (QXr (fun E' w' => ∃ (ord : Rd), o = .inl (E', ord) ∧ w' = (cR k ard ord)) D zCl A) args s 1 6 A) (F0 m 7 ls []) := by
    intro n
    induction n with
    | zero =>
      intro x4_13 srd_14 H locs hP hD hS ls hl hrun
      exact nomatch hrun
    | succ n ih =>
      intro x4_13 srd_14 H locs hP hD hS ls hl hrun
      rw [fX3_figures_L7.eq_2] at hrun
      refine lv_aload_n hx hb dX3_figures_7 rfl (lv_at hl 0 rfl) ?_
      refine lv_aload_n hx hb dX3_figures_8 rfl (lv_at hl 0 rfl) ?_
      refine va_get (ci := 3) (v := .int (rd_at_ srd_14)) (C := RX3) (T := TX3) (N := 7) hx hb hts in_X3 hown hK hP 0 rfl rfl 3 (by decide) (hts _ q265) (fun _ h9 => h9) rfl dX3_figures_9 ?_
      obtain ⟨r_16, hc_15, hrun⟩ := mob_s rfl hrun
      refine cRV (As := [.int (rd_at_ srd_14)]) (ci := 3) ⟨hx, hb, hml, hown, hts⟩ hOK hz hS hP (mtX3_byteAt l D k ard Z hOK _ _ _ hc_15) (kX3_byteAt hts q775 rfl rfl ⟨Nat.le_of_ble_eq_true rfl, Nat.le_of_ble_eq_true rfl⟩) 0 rfl rfl rfl hl.1 rfl (lv_room (Nat.le_of_ble_eq_true rfl)) ⟨Nat.le_of_ble_eq_true rfl, Nat.le_of_ble_eq_true rfl⟩ dX3_figures_12 ?_
      refine lv_bipush (v := (48 : Int32)) hx hb dX3_figures_15 (by decide) ?_
      refine lv_bipush (v := (57 : Int32)) hx hb dX3_figures_17 (by decide) ?_
      obtain ⟨r_18, hc_17, hrun⟩ := mob_s rfl hrun
      refine cRSN (ws := []) (As := [.int r_16, .int (48 : Int32), .int (57 : Int32)]) ⟨hx, hb, hml, hown, hts⟩ hOK hz hS zP0 (mtX1_in l D Z hOK _ _ _ _ hc_17) (kX1_inn hN hts (hN _ (zN_of q787 rfl)) rfl rfl ⟨Nat.le_of_ble_eq_true rfl, Nat.le_of_ble_eq_true rfl⟩) rfl hl.1 rfl (lv_room (Nat.le_of_ble_eq_true rfl)) ⟨Nat.le_of_ble_eq_true rfl, Nat.le_of_ble_eq_true rfl⟩ dX3_figures_19 ?_
      refine lv_if_eq (tgt := 75) hx hb dX3_figures_22 (by decide) (fun c_19 => ?_) (fun c_19 => ?_)
      · have hrun := mif_n (bz_z c_19) hrun
        exact hj_3 x4_13 srd_14 _ _ hP hD hS ls (lv_sub hl [0, 1, 2, 3, 4] rfl) hrun
      have hrun := mif_p (bz_nz c_19) hrun
      refine lv_aload_n hx hb dX3_figures_25 rfl (lv_at hl 0 rfl) ?_
      refine va_get (ci := 3) (v := .int (rd_at_ srd_14)) (C := RX3) (T := TX3) (N := 7) hx hb hts in_X3 hown hK hP 0 rfl rfl 3 (by decide) (hts _ q265) (fun _ h9 => h9) rfl dX3_figures_26 ?_
      refine lv_aload_n hx hb dX3_figures_29 rfl (lv_at hl 0 rfl) ?_
      refine va_get (ci := 3) (v := .int (rd_begin srd_14)) (C := RX3) (T := TX3) (N := 7) hx hb hts in_X3 hown hK hP 0 rfl rfl 4 (by decide) (hts _ q266) (fun _ h9 => h9) rfl dX3_figures_30 ?_
      refine lv_isub hx hb dX3_figures_33 ?_
      refine lv_iload_n hx hb dX3_figures_34 rfl (lv_at hl 3 rfl) ?_
      obtain ⟨K_23, hK_23, hrun⟩ := mjn_s hrun
      have hj_21 : ∀ (y_22 : Int32), ∀ (H : Heap) (locs : List Loc), va_P D zCl (cR k ard srd_14) H → va_D A (cR k ard srd_14) → va_S A s.heap H locs → ∀ ls : Array Slot, lv_has ls 5 [(0, .ref (ard 0)), (1, .int p1), (2, .int p2), (3, .int p3)] → K_23 y_22 = some o → W p l e rX3_figures s m args below meth c H locs 0 0 (vx_MQ below (QWr (fun r' w' => ∃ (r : Int32) (ord : Rd), o = .inr (r, ord) ∧ r' = (some (.int r)) ∧ w' = (cR k ard ord)) D zCl A) (QXr (fun E' w' => ∃ (ord : Rd), o = .inl (E', ord) ∧ w' = (cR k ard ord)) D zCl A) args s 1 6 A) (F0 m 60 ls [.int y_22]) := by
        intro y_22 H locs hP hD hS ls hl hrun
        rw [hK_23] at hrun
        refine lv_istore (lv' := [(4, .int y_22), (0, .ref (ard 0)), (1, .int p1), (2, .int p2), (3, .int p3)]) hx hb dX3_figures_60 hl (by decide) rfl (fun ls hl => ?_)
        refine lv_aload_n hx hb dX3_figures_62 rfl (lv_at hl 1 rfl) ?_
        refine lv_dup hx hb dX3_figures_63 rfl ?_
        refine va_get (ci := 3) (v := .int (rd_at_ srd_14)) (C := RX3) (T := TX3) (N := 7) hx hb hts in_X3 hown hK hP 0 rfl rfl 3 (by decide) (hts _ q265) (fun _ h9 => h9) rfl dX3_figures_64 ?_
        refine lv_iconst (v := (1 : Int32)) hx hb dX3_figures_67 (by decide) ?_
        refine lv_iadd hx hb dX3_figures_68 ?_
        refine lv_topi (fun v_24 ev_24 => ?_)
        have hrun := mlt_s hrun v_24 ev_24
        refine va_put (ci := 3) (v := .int v_24) (ty := tyX3 3) (C := RX3) (T := TX3) (N := 7) hx hb hts in_X3 tyX3 tyX3_ok nmX3 hown hK hP hD hS 0 rfl rfl 3 (by decide) (hts _ q265) (fun _ h9 => h9) rfl (tyX3_ok 3 (by decide)) rfl rfl (Nat.le_of_ble_eq_true rfl) dX3_figures_69 (fun H locs hP hD hS => ?_)
        have hP : va_P D zCl (cR k ard (rd_s_at_ srd_14 v_24)) _ := hP
        have hD : va_D A (cR k ard (rd_s_at_ srd_14 v_24)) := hD
        obtain ⟨srd_25, esrd_25⟩ : ∃ z : Rd, z = (rd_s_at_ srd_14 v_24) := ⟨_, rfl⟩
        rw [← esrd_25] at hP hD
        have hrun := mlt_s hrun srd_25 esrd_25
        refine lv_goto (tgt := 7) hx hb dX3_figures_72 (by decide) ?_
        exact ih y_22 srd_25 _ _ hP hD hS ls (lv_sub hl [1, 2, 3, 4, 0] rfl) hrun
      refine lv_icmp_ge (tgt := 58) hx hb dX3_figures_35 (by decide) (fun c_20 => ?_) (fun c_20 => ?_)
      · have hrun := mif_p c_20 hrun
        refine lv_iload hx hb dX3_figures_58 (lv_at hl 4 rfl) ?_
        exact hj_21 x4_13 _ _ hP hD hS ls (lv_sub hl [0, 1, 2, 3] rfl) hrun
      have hrun := mif_n c_20 hrun
      refine lv_bipush (v := (10 : Int32)) hx hb dX3_figures_38 (by decide) ?_
      refine lv_iload hx hb dX3_figures_40 (lv_at hl 4 rfl) ?_
      refine lv_imul hx hb dX3_figures_42 ?_
      refine lv_aload_n hx hb dX3_figures_43 rfl (lv_at hl 0 rfl) ?_
      refine lv_aload_n hx hb dX3_figures_44 rfl (lv_at hl 0 rfl) ?_
      refine va_get (ci := 3) (v := .int (rd_at_ srd_14)) (C := RX3) (T := TX3) (N := 7) hx hb hts in_X3 hown hK hP 0 rfl rfl 3 (by decide) (hts _ q265) (fun _ h9 => h9) rfl dX3_figures_45 ?_
      obtain ⟨r_27, hc_26, hrun⟩ := mob_s rfl hrun
      refine cRV (As := [.int (rd_at_ srd_14)]) (ci := 3) ⟨hx, hb, hml, hown, hts⟩ hOK hz hS hP (mtX3_byteAt l D k ard Z hOK _ _ _ hc_26) (kX3_byteAt hts q775 rfl rfl ⟨Nat.le_of_ble_eq_true rfl, Nat.le_of_ble_eq_true rfl⟩) 0 rfl rfl rfl hl.1 rfl (lv_room (Nat.le_of_ble_eq_true rfl)) ⟨Nat.le_of_ble_eq_true rfl, Nat.le_of_ble_eq_true rfl⟩ dX3_figures_48 ?_
      refine lv_iadd hx hb dX3_figures_51 ?_
      refine lv_bipush (v := (48 : Int32)) hx hb dX3_figures_52 (by decide) ?_
      refine lv_isub hx hb dX3_figures_54 ?_
      refine lv_goto (tgt := 60) hx hb dX3_figures_55 (by decide) ?_
      exact hj_21 ((((10 : Int32) * x4_13) + r_27) - (48 : Int32)) _ _ hP hD hS ls (lv_sub hl [0, 1, 2, 3] rfl) hrun
  exact hL_12 mFU (0 : Int32) srd_2 _ _ hP hD hS ls (lv_sub hl [1, 2, 3, 4, 0] rfl) hrun
def rX3_number : Room := { frames := 6, cells := 1, slots := 6, locals := 164 }
noncomputable def fX3_number (srd : Rd) (p1 : Int32) (p2 : Int32) : Option ((String × Rd) ⊕ (Int32 × Rd)) :=
  mox (fX3_figures srd p1 p2 (3 : Int32)) (fun E_5 => some (.inl (E_5.1, (E_5.2)))) fun q_6 =>
  some (.inr ((q_6.1), (q_6.2)))
theorem kX3_number {R : Room} {s : State} {args : Array Value} {own : String} {idx mc ms : Nat} {rm : Room} (hts : ∀ w ∈ lw_all, w.before args s = true) (hl : Cond.methodLink own idx yX3_number ∈ lw_all) (hrc : rm.cells = mc) (hrs : rm.slots = ms) (hR : rm.frames + 1 ≤ R.frames ∧ 8 + (3 + 11) + rm.locals ≤ R.locals) : CallW R s args own RX3 idx yX3_number cX3_number 3 (some .int) (ws_ yX3_number cX3_number 3 (some .int)) rm mc ms 2 :=
  cwV 2 hts (lw_V hl q1233 q1234 q109 q1235) rfl hrc hrs (by decide +kernel) hR
set_option maxHeartbeats 4000000 in
set_option maxRecDepth 100000 in
theorem mtX3_number (l : Launch) (D : va_G) (k : Nat → ClassId) (ard : Nat → Nat) (Z : zZ) (hOK : zOK D zCl (zTys k) Z) (hlt : l.stackTraces = false) (hTh : zTh Z) (srd : Rd) (p1 : Int32) (p2 : Int32) (o : (String × Rd) ⊕ (Int32 × Rd)) (hrun : fX3_number srd p1 p2 = some o) :
    CtX l yX3_number cX3_number 3 (some .int) rX3_number Z D zCl (cR k ard srd) [.ref (ard 0), .int p1, .int p2] (fun r' w' => ∃ (r : Int32) (ord : Rd), o = .inr (r, ord) ∧ r' = (some (.int r)) ∧ w' = (cR k ard ord)) (fun E' w' => ∃ (ord : Rd), o = .inl (E', ord) ∧ w' = (cR k ard ord)) 1 6 := by
  refine CtX.of (by decide) (Nat.le_of_ble_eq_true rfl) ?_
  intro p e s m args below meth c A hE hnoh hA hP hD hS hz ls hl
  obtain ⟨hx, hb, hr, hml, hown, hts, hlocks, hname⟩ := hE
  have hown : s.vm.findClass RX3 = some m.cls := hown
  have hK := hOK.1 _ _ _ hz
  have hN := hOK.2.1 _ _ _ hz
  have hl : lv_has ls 3 [(0, .ref (ard 0)), (1, .int p1), (2, .int p2)] := hl
  unfold fX3_number at hrun
  refine lv_aload_n hx hb dX3_number_0 rfl (lv_at hl 0 rfl) ?_
  refine lv_iload_n hx hb dX3_number_1 rfl (lv_at hl 1 rfl) ?_
  refine lv_iload_n hx hb dX3_number_2 rfl (lv_at hl 2 rfl) ?_
  refine lv_iconst (v := (3 : Int32)) hx hb dX3_number_3 (by decide) ?_
  obtain ⟨o_2, hc_1, hrun⟩ := mox_s rfl hrun
  have hP := hP.sub (ws' := ([] ++ ((cR k ard srd) ++ []))) [0, 1] rfl
  have hD := hD.sub (ws' := ([] ++ ((cR k ard srd) ++ []))) [0, 1] (by decide) rfl
  refine cXV [] (cR k ard srd) [] (As := [.int p1, .int p2, .int (3 : Int32)]) (ci := 3) ⟨hx, hb, hml, hown, hts⟩ hOK hz hS hA hP hD (mtX3_figures l D k ard Z hOK hlt hTh _ _ _ _ o_2 hc_1) (kX3_figures hts q1236 rfl rfl ⟨Nat.le_of_ble_eq_true rfl, Nat.le_of_ble_eq_true rfl⟩) 0 rfl rfl rfl hl.1 rfl (lv_room (Nat.le_of_ble_eq_true rfl)) ⟨Nat.le_of_ble_eq_true rfl, Nat.le_of_ble_eq_true rfl⟩ dX3_number_4 (fun E_ w_ ce_ q9_ H locs hq hP hD hS hce hcv hcl => ?_) (fun r_ w_ H locs hq hP hD hS => ?_)
  · obtain ⟨srd_3x, rfl, rfl⟩ := hq
    have hrun := moxl hrun
    cases hrun
    have hP := hP.sub (ws' := (cR k ard srd_3x)) [0, 1] rfl
    have hD := hD.sub (ws' := (cR k ard srd_3x)) [0, 1] (by decide) rfl
    exact zout hnoh hlocks hce hcv hcl hP hD hS ⟨_, rfl, rfl⟩ (Nat.le_of_ble_eq_true rfl) (Nat.le_of_ble_eq_true rfl)
  obtain ⟨r_4, srd_3, rfl, rfl, rfl⟩ := hq
  have hrun := moxr hrun
  have hP := hP.sub (ws' := (cR k ard srd_3)) [0, 1] rfl
  have hD := hD.sub (ws' := (cR k ard srd_3)) [0, 1] (by decide) rfl
  cases hrun
  refine W.widen (k := 1) (n := 6) (Nat.le_of_ble_eq_true rfl) (Nat.le_of_ble_eq_true rfl) ?_
  exact vx_ret (retW_i hx hb hr hlocks hP hD hS ⟨_, _, rfl, rfl, rfl⟩ dX3_number_7)
def rX3_goesDeeper : Room := { frames := 5, cells := 1, slots := 6, locals := 140 }
noncomputable def fX3_goesDeeper (srd : Rd) : Option ((String × Rd) ⊕ (Rd)) :=
  if (rd_deep srd) = (6 : Int32) then
    some (.inl ("SaturdayKeep$Wrong", srd))
  else
    mlt ((rd_deep srd) + (1 : Int32)) fun v_2 =>
    mlt (rd_s_deep srd v_2) fun srd_3 =>
    some (.inr srd_3)
theorem kX3_goesDeeper {R : Room} {s : State} {args : Array Value} {own : String} {idx mc ms : Nat} {rm : Room} (hts : ∀ w ∈ lw_all, w.before args s = true) (hl : Cond.methodLink own idx yX3_goesDeeper ∈ lw_all) (hrc : rm.cells = mc) (hrs : rm.slots = ms) (hR : rm.frames + 1 ≤ R.frames ∧ 8 + (1 + 11) + rm.locals ≤ R.locals) : CallW R s args own RX3 idx yX3_goesDeeper cX3_goesDeeper 1 none (ws_ yX3_goesDeeper cX3_goesDeeper 1 none) rm mc ms 0 :=
  cwV 0 hts (lw_V hl q1357 q1358 q109 q1359) rfl hrc hrs (by decide +kernel) hR
set_option maxHeartbeats 4000000 in
set_option maxRecDepth 100000 in
theorem mtX3_goesDeeper (l : Launch) (D : va_G) (k : Nat → ClassId) (ard : Nat → Nat) (Z : zZ) (hOK : zOK D zCl (zTys k) Z) (hlt : l.stackTraces = false) (hTh : zTh Z) (srd : Rd) (o : (String × Rd) ⊕ (Rd)) (hrun : fX3_goesDeeper srd = some o) :
    CtX l yX3_goesDeeper cX3_goesDeeper 1 none rX3_goesDeeper Z D zCl (cR k ard srd) [.ref (ard 0)] (fun r' w' => ∃ (ord : Rd), o = .inr ord ∧ r' = none ∧ w' = (cR k ard ord)) (fun E' w' => ∃ (ord : Rd), o = .inl (E', ord) ∧ w' = (cR k ard ord)) 1 6 := by
  refine CtX.of (by decide) (Nat.le_of_ble_eq_true rfl) ?_
  intro p e s m args below meth c A hE hnoh hA hP hD hS hz ls hl
  obtain ⟨hx, hb, hr, hml, hown, hts, hlocks, hname⟩ := hE
  have hown : s.vm.findClass RX3 = some m.cls := hown
  have hK := hOK.1 _ _ _ hz
  have hN := hOK.2.1 _ _ _ hz
  have hl : lv_has ls 1 [(0, .ref (ard 0))] := hl
  unfold fX3_goesDeeper at hrun
  refine lv_aload_n hx hb dX3_goesDeeper_0 rfl (lv_at hl 0 rfl) ?_
  refine va_get (ci := 3) (v := .int (rd_deep srd)) (C := RX3) (T := TX3) (N := 7) hx hb hts in_X3 hown hK hP 0 rfl rfl 6 (by decide) (hts _ q270) (fun _ h9 => h9) rfl dX3_goesDeeper_1 ?_
  refine lv_bipush (v := (6 : Int32)) hx hb dX3_goesDeeper_4 (by decide) ?_
  refine lv_icmp_ne (tgt := 14) hx hb dX3_goesDeeper_6 (by decide) (fun c_1 => ?_) (fun c_1 => ?_)
  · have hrun := mif_n c_1 hrun
    refine lv_aload_n hx hb dX3_goesDeeper_14 rfl (lv_at hl 0 rfl) ?_
    refine lv_dup hx hb dX3_goesDeeper_15 rfl ?_
    refine va_get (ci := 3) (v := .int (rd_deep srd)) (C := RX3) (T := TX3) (N := 7) hx hb hts in_X3 hown hK hP 0 rfl rfl 6 (by decide) (hts _ q270) (fun _ h9 => h9) rfl dX3_goesDeeper_16 ?_
    refine lv_iconst (v := (1 : Int32)) hx hb dX3_goesDeeper_19 (by decide) ?_
    refine lv_iadd hx hb dX3_goesDeeper_20 ?_
    refine lv_topi (fun v_2 ev_2 => ?_)
    have hrun := mlt_s hrun v_2 ev_2
    refine va_put (ci := 3) (v := .int v_2) (ty := tyX3 6) (C := RX3) (T := TX3) (N := 7) hx hb hts in_X3 tyX3 tyX3_ok nmX3 hown hK hP hD hS 0 rfl rfl 6 (by decide) (hts _ q270) (fun _ h9 => h9) rfl (tyX3_ok 6 (by decide)) rfl rfl (Nat.le_of_ble_eq_true rfl) dX3_goesDeeper_21 (fun H locs hP hD hS => ?_)
    have hP : va_P D zCl (cR k ard (rd_s_deep srd v_2)) _ := hP
    have hD : va_D A (cR k ard (rd_s_deep srd v_2)) := hD
    obtain ⟨srd_3, esrd_3⟩ : ∃ z : Rd, z = (rd_s_deep srd v_2) := ⟨_, rfl⟩
    rw [← esrd_3] at hP hD
    have hrun := mlt_s hrun srd_3 esrd_3
    cases hrun
    refine W.widen (k := 1) (n := 6) (Nat.le_of_ble_eq_true rfl) (Nat.le_of_ble_eq_true rfl) ?_
    exact vx_ret (retW_v hx hb hr hlocks hP hD hS ⟨_, rfl, rfl, rfl⟩ dX3_goesDeeper_24)
  have hrun := mif_p c_1 hrun
  refine lv_aload_n hx hb dX3_goesDeeper_9 rfl (lv_at hl 0 rfl) ?_
  cases hrun
  have hP : va_P D zCl ([] ++ ((cR k ard srd) ++ [])) _ := hP
  have hD : va_D A ([] ++ ((cR k ard srd) ++ [])) := hD
  refine cWV [] (cR k ard srd) [] (As := []) (ci := 3) ⟨hx, hb, hml, hown, hts⟩ hOK hz hS hA hP hD (mtX3_wrongR l D k Z hOK hTh ard srd) (kX3_wrong hts q1240 rfl rfl ⟨Nat.le_of_ble_eq_true rfl, Nat.le_of_ble_eq_true rfl⟩) 0 rfl rfl rfl hl.1 rfl (lv_room (Nat.le_of_ble_eq_true rfl)) ⟨(Nat.le_of_ble_eq_true rfl), (Nat.le_of_ble_eq_true rfl)⟩ dX3_goesDeeper_10 (fun r_ w_ H locs hq hP hD hS => ?_)
  obtain ⟨qw_, rfl, rfl⟩ := hq
  obtain ⟨ce_, hce_, hcv_, hcl_⟩ := zWr hK hP 2 rfl
  refine vx_athrow hx hb dX3_goesDeeper_13 ?_
  have hP := hP.sub (ws' := (cR k ard srd)) [0, 1] rfl
  have hD := hD.sub (ws' := (cR k ard srd)) [0, 1] (by decide) rfl
  exact zout hnoh hlocks hce_ hcv_ hcl_ hP hD hS ⟨_, rfl, rfl⟩ (Nat.le_of_ble_eq_true rfl) (Nat.le_of_ble_eq_true rfl)
