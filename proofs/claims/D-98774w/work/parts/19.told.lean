/-! WHAT IS TOLD; what is fed -/
theorem dem_t {v : Bool} {o : String ⊕ Unit} (hv : v = true) (h : fX1_demand v = some o) : o = .inr () := by
  subst hv
  exact (Option.some.inj h).symm
theorem dem_f {v : Bool} {o : String ⊕ Unit} (hv : v = false) (h : fX1_demand v = some o) : o = .inl "java/lang/IllegalArgumentException" := by
  subst hv
  exact (Option.some.inj h).symm
theorem mtX1_demand_t (l : Launch) (D : va_G) {tys : List (ClassId × FieldType)} (Z : zZ) (hOK : zOK D zCl tys Z) (v : Bool) (hv : v = true) : CtR l yX1_demand cX1_demand 1 none (rLs 0 0 0 0) Z D zCl [] [.int (bz v)] none := by
  subst hv
  refine CtR.of (by decide) (Nat.le_of_ble_eq_true rfl) ?_
  intro p e s m args below meth c hE hP hz ls hl
  obtain ⟨hx, hb, hr, hml, hown, hts, hlocks, hname⟩ := hE
  have hl : lv_has ls 1 [(0, .int (bz true))] := hl
  refine lv_iload_n hx hb dX1_demand_0 rfl (lv_at hl 0 rfl) ?_
  refine lv_if_ne (tgt := 12) hx hb dX1_demand_1 (by decide) (fun _ => ?_) (fun c1 => absurd c1 (by decide))
  exact retR_v hx hb hr hlocks rfl dX1_demand_12
def fv_five (t : Nat → Int32) : Nat → Int32 := t
def cF (k : Nat → ClassId) (a : Nat → Nat) (t : Nat → Int32) : va_W := [(a 1, .inl (k 0, 5, .inl (fv_five t)))]
def rX1_tells : Room := { frames := 7, cells := 1, slots := 6, locals := 109 }
noncomputable def fX1_tells_L37 (srd_2 : Rd) (p1 : Int32) : Nat → Int32 → Option ((String × Rd) ⊕ (Rd))
  | 0, _ => none
  | n + 1, x3_11 =>
    if (rd_end_ srd_2) ≤ x3_11 then
      some (.inr srd_2)
    else
      mck x3_11 400 <|
      mob (fX1_in ((rd_tape srd_2) (Int32.toNatClampNeg x3_11)) (0 : Int32) (p1 - (1 : Int32))) fun r_15 =>
      mjn (fun (y_18 : Bool) =>
      mox (fX1_demand y_18) (fun E_22 => some (.inl (E_22, srd_2))) fun _ =>
      fX1_tells_L37 srd_2 p1 n (x3_11 + (2 : Int32))) fun K_19 =>
      if r_15 = true then
        mck (x3_11 + (1 : Int32)) 400 <|
        mob (fX1_in ((rd_tape srd_2) (Int32.toNatClampNeg (x3_11 + (1 : Int32)))) (0 : Int32) (1 : Int32)) fun r_25 =>
        if r_25 = true then
          K_19 true
        else
          K_19 false
      else
        K_19 false
noncomputable def fX1_tells (sh : Kp) (srd : Rd) (p1 : Int32) : Option ((String × Rd) ⊕ (Rd)) :=
  mob (fX3_begins srd) fun srd_2 =>
  mjn (fun (y_5 : Bool) =>
  mox (fX1_demand y_5) (fun E_9 => some (.inl (E_9, srd_2))) fun _ =>
  fX1_tells_L37 srd_2 p1 mFU (0 : Int32)) fun K_6 =>
  if (mrm (rd_end_ srd_2) (2 : Int32)) = (0 : Int32) then
    if (40 : Int32) < (rd_end_ srd_2) then
      K_6 false
    else
      K_6 true
  else
    K_6 false
theorem kX1_tells {R : Room} {s : State} {args : Array Value} {own : String} {idx mc ms : Nat} {rm : Room} (hts : ∀ w ∈ lw_all, w.before args s = true) (hl : Cond.methodLink own idx yX1_tells ∈ lw_all) (hrc : rm.cells = mc) (hrs : rm.slots = ms) (hR : rm.frames + 1 ≤ R.frames ∧ 8 + (4 + 11) + rm.locals ≤ R.locals) : CallW R s args own RX1 idx yX1_tells cX1_tells 4 none (ws_ yX1_tells cX1_tells 4 none) rm mc ms 1 :=
  cwV 1 hts (lw_V hl q1784 qs42 q107 q1785) rfl hrc hrs (by decide +kernel) hR
set_option maxHeartbeats 4000000 in
set_option maxRecDepth 100000 in
theorem mtX1_tells (l : Launch) (D : va_G) (k : Nat → ClassId) (ah : Nat → Nat) (aw : Nat → Nat) (adr : Nat → Nat) (aim : Nat → Nat) (ard : Nat → Nat) (asc : Nat → Nat) (ath : Nat → Nat) (awl : Nat → Nat) (alo : Nat → Nat) (atr : Nat → Nat) (Z : zZ) (hOK : zOK D zCl (zTys k) Z) (hlt : l.stackTraces = false) (hTh : zTh Z) (sh : Kp) (srd : Rd) (p1 : Int32) (o : (String × Rd) ⊕ (Rd)) (hrun : fX1_tells sh srd p1 = some o) :
    CtX l yX1_tells cX1_tells 4 none rX1_tells Z D zCl ((cH k ah aw adr aim ard asc ath awl alo atr sh) ++ (cR k ard srd)) [.ref (ah 0), .int p1] (fun r' w' => ∃ (ord : Rd), o = .inr ord ∧ r' = none ∧ w' = ((cH k ah aw adr aim ard asc ath awl alo atr sh) ++ (cR k ard ord))) (fun E' w' => ∃ (ord : Rd), o = .inl (E', ord) ∧ w' = ((cH k ah aw adr aim ard asc ath awl alo atr sh) ++ (cR k ard ord))) 1 6 := by
  refine CtX.of (by decide) (Nat.le_of_ble_eq_true rfl) ?_
  intro p e s m args below meth c A hE hnoh hA hP hD hS hz ls hl
  obtain ⟨hx, hb, hr, hml, hown, hts, hlocks, hname⟩ := hE
  have hown : s.vm.findClass RX1 = some m.cls := hown
  have hK := hOK.1 _ _ _ hz
  have hN := hOK.2.1 _ _ _ hz
  have hl : lv_has ls 4 [(0, .ref (ah 0)), (1, .int p1)] := hl
  unfold fX1_tells at hrun
  refine lv_aload_n hx hb dX1_tells_0 rfl (lv_at hl 0 rfl) ?_
  refine va_get (ci := 1) (v := .ref (ard 0)) (C := RX1) (T := TX1) (N := 10) hx hb hts in_X1 hown hK hP 0 rfl rfl 4 (by decide) (hts _ q375) (fun _ h9 => h9) rfl dX1_tells_1 ?_
  refine lv_astore_n (lv' := [(2, .ref (ard 0)), (0, .ref (ah 0)), (1, .int p1)]) hx hb dX1_tells_4 rfl hl (by decide) rfl (fun ls hl => ?_)
  refine lv_aload_n hx hb dX1_tells_5 rfl (lv_at hl 0 rfl) ?_
  obtain ⟨srd_2, hc_1, hrun⟩ := mob_s rfl hrun
  have hP := hP.sub (ws' := ((cR k ard srd) ++ (cH k ah aw adr aim ard asc ath awl alo atr sh))) [1, 2, 0] rfl
  have hD := hD.sub (ws' := ((cR k ard srd) ++ (cH k ah aw adr aim ard asc ath awl alo atr sh))) [1, 2, 0] (by decide) rfl
  refine cWV [] (cR k ard srd) (cH k ah aw adr aim ard asc ath awl alo atr sh) (As := []) (ci := 3) ⟨hx, hb, hml, hown, hts⟩ hOK hz hS hA hP hD (mtX3_begins l D k ard Z hOK _ _ hc_1) (kX3_begins hts q759 rfl rfl ⟨Nat.le_of_ble_eq_true rfl, Nat.le_of_ble_eq_true rfl⟩) 0 rfl rfl rfl hl.1 rfl (lv_room (Nat.le_of_ble_eq_true rfl)) ⟨Nat.le_of_ble_eq_true rfl, Nat.le_of_ble_eq_true rfl⟩ dX1_tells_6 (fun r_ w_ H locs hq hP hD hS => ?_)
  obtain ⟨rfl, rfl⟩ := hq
  have hP := hP.sub (ws' := ((cH k ah aw adr aim ard asc ath awl alo atr sh) ++ (cR k ard srd_2))) [2, 0, 1] rfl
  have hD := hD.sub (ws' := ((cH k ah aw adr aim ard asc ath awl alo atr sh) ++ (cR k ard srd_2))) [2, 0, 1] (by decide) rfl
  refine lv_aload_n hx hb dX1_tells_9 rfl (lv_at hl 0 rfl) ?_
  refine va_getN (ci := 3) (v := .int (rd_end_ srd_2)) (C := RX3) (T := TX3) (N := 7) hx hb hts in_X3 hown hK hP 1 rfl rfl 2 (by decide) (va_Nw.use rfl (hN _ (zN_of q264 rfl))) (fun _ h9 => h9) rfl dX1_tells_10 ?_
  refine lv_iconst (v := (2 : Int32)) hx hb dX1_tells_13 (by decide) ?_
  refine lv_irem hx hb dX1_tells_14 (by decide) ?_
  obtain ⟨K_6, hK_6, hrun⟩ := mjn_s hrun
  have hj_4 : ∀ (y_5 : Bool), ∀ (H : Heap) (locs : List Loc), va_P D zCl ((cH k ah aw adr aim ard asc ath awl alo atr sh) ++ (cR k ard srd_2)) H → va_D A ((cH k ah aw adr aim ard asc ath awl alo atr sh) ++ (cR k ard srd_2)) → va_S A s.heap H locs → ∀ ls : Array Slot, lv_has ls 4 [(1, .int p1), (2, .ref (ard 0))] → K_6 y_5 = some o → W p l e rX1_tells s m args below meth c H locs 0 0 (vx_MQ below (QWr (fun r' w' => ∃ (ord : Rd), o = .inr ord ∧ r' = none ∧ w' = ((cH k ah aw adr aim ard asc ath awl alo atr sh) ++ (cR k ard ord))) D zCl A) (QXr (fun E' w' => ∃ (ord : Rd), o = .inl (E', ord) ∧ w' = ((cH k ah aw adr aim ard asc ath awl alo atr sh) ++ (cR k ard ord))) D zCl A) args s 1 6 A) (F0 m 32 ls [.int (bz y_5)]) := by
    intro y_5 H locs hP hD hS ls hl hrun
    rw [hK_6] at hrun
    obtain ⟨o_8, hc_7, hrun⟩ := mox_s rfl hrun
    rcases Bool.eq_false_or_eq_true y_5 with hv_ | hv_
    case inr =>
      have hP := hP.sub (ws' := ([] ++ ([] ++ ((cH k ah aw adr aim ard asc ath awl alo atr sh) ++ (cR k ard srd_2))))) [0, 1, 2] rfl
      have hD := hD.sub (ws' := ([] ++ ([] ++ ((cH k ah aw adr aim ard asc ath awl alo atr sh) ++ (cR k ard srd_2))))) [0, 1, 2] (by decide) rfl
      refine cXS [] [] ((cH k ah aw adr aim ard asc ath awl alo atr sh) ++ (cR k ard srd_2)) (As := [.int (bz y_5)]) ⟨hx, hb, hml, hown, hts⟩ hOK hz hS hA hP hD (mtX1_demand l D Z hOK hlt hTh _ o_8 hc_7) (kX1_demand hts q1627 rfl rfl ⟨Nat.le_of_ble_eq_true rfl, Nat.le_of_ble_eq_true rfl⟩) rfl hl.1 rfl (lv_room (Nat.le_of_ble_eq_true rfl)) ⟨Nat.le_of_ble_eq_true rfl, Nat.le_of_ble_eq_true rfl⟩ dX1_tells_32 (fun E_ w_ ce_ q9_ H locs hq hP hD hS hce hcv hcl => ?_) (fun r_ w_ H locs hq hP hD hS => ?_)
      · obtain ⟨rfl, rfl⟩ := hq
        have hrun := moxl hrun
        cases hrun
        have hP := hP.sub (ws' := ((cH k ah aw adr aim ard asc ath awl alo atr sh) ++ (cR k ard srd_2))) [0, 1, 2] rfl
        have hD := hD.sub (ws' := ((cH k ah aw adr aim ard asc ath awl alo atr sh) ++ (cR k ard srd_2))) [0, 1, 2] (by decide) rfl
        exact zout hnoh hlocks hce hcv hcl hP hD hS ⟨_, rfl, rfl⟩ (Nat.le_of_ble_eq_true rfl) (Nat.le_of_ble_eq_true rfl)
      · obtain ⟨rfl, rfl, rfl⟩ := hq
        exact absurd (dem_f hv_ hc_7) (by simp)
    obtain rfl := dem_t hv_ hc_7
    refine cRS (ws := []) (As := [.int (bz y_5)]) ⟨hx, hb, hml, hown, hts⟩ hOK hz hS zP0 (mtX1_demand_t l D Z hOK y_5 hv_) (kX1_demand hts q1627 rfl rfl ⟨Nat.le_of_ble_eq_true rfl, Nat.le_of_ble_eq_true rfl⟩) rfl hl.1 rfl (lv_room (Nat.le_of_ble_eq_true rfl)) ⟨Nat.le_of_ble_eq_true rfl, Nat.le_of_ble_eq_true rfl⟩ dX1_tells_32 ?_
    have hrun := moxr hrun
    refine lv_iconst (v := (0 : Int32)) hx hb dX1_tells_35 (by decide) ?_
    refine lv_istore_n (lv' := [(3, .int (0 : Int32)), (1, .int p1), (2, .ref (ard 0))]) hx hb dX1_tells_36 rfl hl (by decide) rfl (fun ls hl => ?_)
    have hL_10 : ∀ n : Nat, ∀ (x3_11 : Int32), ∀ (H : Heap) (locs : List Loc), va_P D zCl ((cH k ah aw adr aim ard asc ath awl alo atr sh) ++ (cR k ard srd_2)) H → va_D A ((cH k ah aw adr aim ard asc ath awl alo atr sh) ++ (cR k ard srd_2)) → va_S A s.heap H locs → ∀ ls : Array Slot, lv_has ls 4 [(1, .int p1), (2, .ref (ard 0)), (3, .int x3_11)] → fX1_tells_L37 srd_2 p1 n x3_11 = some o → W p l e rX1_tells s m args below meth c H locs 0 0 (vx_MQ below (QWr (fun r' w' => ∃ (ord : Rd), o = .inr ord ∧ r' = none ∧ w' = ((cH k ah aw adr aim ard asc ath awl alo atr sh) ++ (cR k ard ord))) D zCl A) (QXr (fun E' w' => ∃ (ord : Rd), o = .inl (E', ord) ∧ w' = ((cH k ah aw adr aim ard asc ath awl alo atr sh) ++ (cR k ard ord))) D zCl A) args s 1 6 A) (F0 m 37 ls []) := by
      intro n
      induction n with
      | zero =>
        intro x3_11 H locs hP hD hS ls hl hrun
        exact nomatch hrun
      | succ n ih =>
        intro x3_11 H locs hP hD hS ls hl hrun
        rw [fX1_tells_L37.eq_2] at hrun
        refine lv_iload_n hx hb dX1_tells_37 rfl (lv_at hl 2 rfl) ?_
        refine lv_aload_n hx hb dX1_tells_38 rfl (lv_at hl 1 rfl) ?_
        refine va_getN (ci := 3) (v := .int (rd_end_ srd_2)) (C := RX3) (T := TX3) (N := 7) hx hb hts in_X3 hown hK hP 1 rfl rfl 2 (by decide) (va_Nw.use rfl (hN _ (zN_of q264 rfl))) (fun _ h9 => h9) rfl dX1_tells_39 ?_
        refine lv_icmp_ge (tgt := 91) hx hb dX1_tells_42 (by decide) (fun c_12 => ?_) (fun c_12 => ?_)
        · have hrun := mif_p c_12 hrun
          cases hrun
          refine W.widen (k := 1) (n := 6) (Nat.le_of_ble_eq_true rfl) (Nat.le_of_ble_eq_true rfl) ?_
          exact vx_ret (retW_v hx hb hr hlocks hP hD hS ⟨_, rfl, rfl, rfl⟩ dX1_tells_91)
        have hrun := mif_n c_12 hrun
        refine lv_aload_n hx hb dX1_tells_45 rfl (lv_at hl 1 rfl) ?_
        refine va_getN (ci := 3) (v := .ref (ard 1)) (C := RX3) (T := TX3) (N := 7) hx hb hts in_X3 hown hK hP 1 rfl rfl 0 (by decide) (va_Nw.use rfl (hN _ (zN_of q261 rfl))) (fun _ h9 => h9) rfl dX1_tells_46 ?_
        refine lv_iload_n hx hb dX1_tells_49 rfl (lv_at hl 2 rfl) ?_
        obtain ⟨hb_13, hrun⟩ := mck_s rfl hrun
        refine va_bald hx hb hK hP 2 2 rfl rfl hb_13 dX1_tells_50 ?_
        refine lv_iconst (v := (0 : Int32)) hx hb dX1_tells_51 (by decide) ?_
        refine lv_iload_n hx hb dX1_tells_52 rfl (lv_at hl 0 rfl) ?_
        refine lv_iconst (v := (1 : Int32)) hx hb dX1_tells_53 (by decide) ?_
        refine lv_isub hx hb dX1_tells_54 ?_
        obtain ⟨r_15, hc_14, hrun⟩ := mob_s rfl hrun
        refine cRS (ws := []) (As := [.int ((rd_tape srd_2) (Int32.toNatClampNeg x3_11)), .int (0 : Int32), .int (p1 - (1 : Int32))]) ⟨hx, hb, hml, hown, hts⟩ hOK hz hS zP0 (mtX1_in l D Z hOK _ _ _ _ hc_14) (kX1_in hts q647 rfl rfl ⟨Nat.le_of_ble_eq_true rfl, Nat.le_of_ble_eq_true rfl⟩) rfl hl.1 rfl (lv_room (Nat.le_of_ble_eq_true rfl)) ⟨Nat.le_of_ble_eq_true rfl, Nat.le_of_ble_eq_true rfl⟩ dX1_tells_55 ?_
        obtain ⟨K_19, hK_19, hrun⟩ := mjn_s hrun
        have hj_17 : ∀ (y_18 : Bool), ∀ (H : Heap) (locs : List Loc), va_P D zCl ((cH k ah aw adr aim ard asc ath awl alo atr sh) ++ (cR k ard srd_2)) H → va_D A ((cH k ah aw adr aim ard asc ath awl alo atr sh) ++ (cR k ard srd_2)) → va_S A s.heap H locs → ∀ ls : Array Slot, lv_has ls 4 [(1, .int p1), (2, .ref (ard 0)), (3, .int x3_11)] → K_19 y_18 = some o → W p l e rX1_tells s m args below meth c H locs 0 0 (vx_MQ below (QWr (fun r' w' => ∃ (ord : Rd), o = .inr ord ∧ r' = none ∧ w' = ((cH k ah aw adr aim ard asc ath awl alo atr sh) ++ (cR k ard ord))) D zCl A) (QXr (fun E' w' => ∃ (ord : Rd), o = .inl (E', ord) ∧ w' = ((cH k ah aw adr aim ard asc ath awl alo atr sh) ++ (cR k ard ord))) D zCl A) args s 1 6 A) (F0 m 82 ls [.int (bz y_18)]) := by
          intro y_18 H locs hP hD hS ls hl hrun
          rw [hK_19] at hrun
          obtain ⟨o_21, hc_20, hrun⟩ := mox_s rfl hrun
          rcases Bool.eq_false_or_eq_true y_18 with hv_ | hv_
          case inr =>
            have hP := hP.sub (ws' := ([] ++ ([] ++ ((cH k ah aw adr aim ard asc ath awl alo atr sh) ++ (cR k ard srd_2))))) [0, 1, 2] rfl
            have hD := hD.sub (ws' := ([] ++ ([] ++ ((cH k ah aw adr aim ard asc ath awl alo atr sh) ++ (cR k ard srd_2))))) [0, 1, 2] (by decide) rfl
            refine cXS [] [] ((cH k ah aw adr aim ard asc ath awl alo atr sh) ++ (cR k ard srd_2)) (As := [.int (bz y_18)]) ⟨hx, hb, hml, hown, hts⟩ hOK hz hS hA hP hD (mtX1_demand l D Z hOK hlt hTh _ o_21 hc_20) (kX1_demand hts q1627 rfl rfl ⟨Nat.le_of_ble_eq_true rfl, Nat.le_of_ble_eq_true rfl⟩) rfl hl.1 rfl (lv_room (Nat.le_of_ble_eq_true rfl)) ⟨Nat.le_of_ble_eq_true rfl, Nat.le_of_ble_eq_true rfl⟩ dX1_tells_82 (fun E_ w_ ce_ q9_ H locs hq hP hD hS hce hcv hcl => ?_) (fun r_ w_ H locs hq hP hD hS => ?_)
            · obtain ⟨rfl, rfl⟩ := hq
              have hrun := moxl hrun
              cases hrun
              have hP := hP.sub (ws' := ((cH k ah aw adr aim ard asc ath awl alo atr sh) ++ (cR k ard srd_2))) [0, 1, 2] rfl
              have hD := hD.sub (ws' := ((cH k ah aw adr aim ard asc ath awl alo atr sh) ++ (cR k ard srd_2))) [0, 1, 2] (by decide) rfl
              exact zout hnoh hlocks hce hcv hcl hP hD hS ⟨_, rfl, rfl⟩ (Nat.le_of_ble_eq_true rfl) (Nat.le_of_ble_eq_true rfl)
            · obtain ⟨rfl, rfl, rfl⟩ := hq
              exact absurd (dem_f hv_ hc_20) (by simp)
          obtain rfl := dem_t hv_ hc_20
          refine cRS (ws := []) (As := [.int (bz y_18)]) ⟨hx, hb, hml, hown, hts⟩ hOK hz hS zP0 (mtX1_demand_t l D Z hOK y_18 hv_) (kX1_demand hts q1627 rfl rfl ⟨Nat.le_of_ble_eq_true rfl, Nat.le_of_ble_eq_true rfl⟩) rfl hl.1 rfl (lv_room (Nat.le_of_ble_eq_true rfl)) ⟨Nat.le_of_ble_eq_true rfl, Nat.le_of_ble_eq_true rfl⟩ dX1_tells_82 ?_
          have hrun := moxr hrun
          refine lv_iinc (v := (x3_11 + (2 : Int32))) (lv' := [(3, .int (x3_11 + (2 : Int32))), (1, .int p1), (2, .ref (ard 0))]) hx hb dX1_tells_85 hl (k := 2) rfl rfl (by decide) rfl (fun ls hl => ?_)
          refine lv_goto (tgt := 37) hx hb dX1_tells_88 (by decide) ?_
          exact ih (x3_11 + (2 : Int32)) _ _ hP hD hS ls (lv_sub hl [1, 2, 0] rfl) hrun
        refine lv_if_eq (tgt := 81) hx hb dX1_tells_58 (by decide) (fun c_16 => ?_) (fun c_16 => ?_)
        · have hrun := mif_n (bz_z c_16) hrun
          refine lv_iconst (v := (0 : Int32)) hx hb dX1_tells_81 (by decide) ?_
          exact hj_17 false _ _ hP hD hS ls (lv_sub hl [0, 1, 2] rfl) hrun
        have hrun := mif_p (bz_nz c_16) hrun
        refine lv_aload_n hx hb dX1_tells_61 rfl (lv_at hl 1 rfl) ?_
        refine va_getN (ci := 3) (v := .ref (ard 1)) (C := RX3) (T := TX3) (N := 7) hx hb hts in_X3 hown hK hP 1 rfl rfl 0 (by decide) (va_Nw.use rfl (hN _ (zN_of q261 rfl))) (fun _ h9 => h9) rfl dX1_tells_62 ?_
        refine lv_iload_n hx hb dX1_tells_65 rfl (lv_at hl 2 rfl) ?_
        refine lv_iconst (v := (1 : Int32)) hx hb dX1_tells_66 (by decide) ?_
        refine lv_iadd hx hb dX1_tells_67 ?_
        obtain ⟨hb_23, hrun⟩ := mck_s rfl hrun
        refine va_bald hx hb hK hP 2 2 rfl rfl hb_23 dX1_tells_68 ?_
        refine lv_iconst (v := (0 : Int32)) hx hb dX1_tells_69 (by decide) ?_
        refine lv_iconst (v := (1 : Int32)) hx hb dX1_tells_70 (by decide) ?_
        obtain ⟨r_25, hc_24, hrun⟩ := mob_s rfl hrun
        refine cRS (ws := []) (As := [.int ((rd_tape srd_2) (Int32.toNatClampNeg (x3_11 + (1 : Int32)))), .int (0 : Int32), .int (1 : Int32)]) ⟨hx, hb, hml, hown, hts⟩ hOK hz hS zP0 (mtX1_in l D Z hOK _ _ _ _ hc_24) (kX1_in hts q647 rfl rfl ⟨Nat.le_of_ble_eq_true rfl, Nat.le_of_ble_eq_true rfl⟩) rfl hl.1 rfl (lv_room (Nat.le_of_ble_eq_true rfl)) ⟨Nat.le_of_ble_eq_true rfl, Nat.le_of_ble_eq_true rfl⟩ dX1_tells_71 ?_
        refine lv_if_eq (tgt := 81) hx hb dX1_tells_74 (by decide) (fun c_26 => ?_) (fun c_26 => ?_)
        · have hrun := mif_n (bz_z c_26) hrun
          refine lv_iconst (v := (0 : Int32)) hx hb dX1_tells_81 (by decide) ?_
          exact hj_17 false _ _ hP hD hS ls (lv_sub hl [0, 1, 2] rfl) hrun
        have hrun := mif_p (bz_nz c_26) hrun
        refine lv_iconst (v := (1 : Int32)) hx hb dX1_tells_77 (by decide) ?_
        refine lv_goto (tgt := 82) hx hb dX1_tells_78 (by decide) ?_
        exact hj_17 true _ _ hP hD hS ls (lv_sub hl [0, 1, 2] rfl) hrun
    exact hL_10 mFU (0 : Int32) _ _ hP hD hS ls (lv_sub hl [1, 2, 0] rfl) hrun
  refine lv_if_ne (tgt := 31) hx hb dX1_tells_15 (by decide) (fun c_3 => ?_) (fun c_3 => ?_)
  · have hrun := mif_n c_3 hrun
    refine lv_iconst (v := (0 : Int32)) hx hb dX1_tells_31 (by decide) ?_
    exact hj_4 false _ _ hP hD hS ls (lv_sub hl [2, 0] rfl) hrun
  have hrun := mif_p c_3 hrun
  refine lv_aload_n hx hb dX1_tells_18 rfl (lv_at hl 0 rfl) ?_
  refine va_getN (ci := 3) (v := .int (rd_end_ srd_2)) (C := RX3) (T := TX3) (N := 7) hx hb hts in_X3 hown hK hP 1 rfl rfl 2 (by decide) (va_Nw.use rfl (hN _ (zN_of q264 rfl))) (fun _ h9 => h9) rfl dX1_tells_19 ?_
  refine lv_bipush (v := (40 : Int32)) hx hb dX1_tells_22 (by decide) ?_
  refine lv_icmp_gt (tgt := 31) hx hb dX1_tells_24 (by decide) (fun c_28 => ?_) (fun c_28 => ?_)
  · have hrun := mif_p c_28 hrun
    refine lv_iconst (v := (0 : Int32)) hx hb dX1_tells_31 (by decide) ?_
    exact hj_4 false _ _ hP hD hS ls (lv_sub hl [2, 0] rfl) hrun
  have hrun := mif_n c_28 hrun
  refine lv_iconst (v := (1 : Int32)) hx hb dX1_tells_27 (by decide) ?_
  refine lv_goto (tgt := 32) hx hb dX1_tells_28 (by decide) ?_
  exact hj_4 true _ _ hP hD hS ls (lv_sub hl [2, 0] rfl) hrun
def rX1_shifts : Room := { frames := 8, cells := 1, slots := 6, locals := 132 }
noncomputable def fX1_shifts (sh : Kp) (srd : Rd) : Option ((String × Rd) ⊕ (Int32 × Rd)) :=
  mox (fX1_tells sh srd (7 : Int32)) (fun E_4 => some (.inl (E_4.1, (E_4.2)))) fun srd_3 =>
  mob (fX1_shiftsThatFit sh srd_3) fun r_6 =>
  some (.inr (r_6, srd_3))
theorem kX1_shifts {R : Room} {s : State} {args : Array Value} {own : String} {idx mc ms : Nat} {rm : Room} (hts : ∀ w ∈ lw_all, w.before args s = true) (hl : Cond.methodLink own idx yX1_shifts ∈ lw_all) (hrc : rm.cells = mc) (hrs : rm.slots = ms) (hR : rm.frames + 1 ≤ R.frames ∧ 8 + (1 + 11) + rm.locals ≤ R.locals) : CallW R s args own RX1 idx yX1_shifts cX1_shifts 1 (some .int) (ws_ yX1_shifts cX1_shifts 1 (some .int)) rm mc ms 0 :=
  cwV 0 hts (lw_V hl q1779 q1780 q107 q1781) rfl hrc hrs (by decide +kernel) hR
set_option maxHeartbeats 4000000 in
set_option maxRecDepth 100000 in
theorem mtX1_shifts (l : Launch) (D : va_G) (k : Nat → ClassId) (ah : Nat → Nat) (aw : Nat → Nat) (adr : Nat → Nat) (aim : Nat → Nat) (ard : Nat → Nat) (asc : Nat → Nat) (ath : Nat → Nat) (awl : Nat → Nat) (alo : Nat → Nat) (atr : Nat → Nat) (Z : zZ) (hOK : zOK D zCl (zTys k) Z) (hlt : l.stackTraces = false) (hTh : zTh Z) (sh : Kp) (srd : Rd) (o : (String × Rd) ⊕ (Int32 × Rd)) (hrun : fX1_shifts sh srd = some o) :
    CtX l yX1_shifts cX1_shifts 1 (some .int) rX1_shifts Z D zCl ((cH k ah aw adr aim ard asc ath awl alo atr sh) ++ (cR k ard srd)) [.ref (ah 0)] (fun r' w' => ∃ (r : Int32) (ord : Rd), o = .inr (r, ord) ∧ r' = (some (.int r)) ∧ w' = ((cH k ah aw adr aim ard asc ath awl alo atr sh) ++ (cR k ard ord))) (fun E' w' => ∃ (ord : Rd), o = .inl (E', ord) ∧ w' = ((cH k ah aw adr aim ard asc ath awl alo atr sh) ++ (cR k ard ord))) 1 6 := by
  refine CtX.of (by decide) (Nat.le_of_ble_eq_true rfl) ?_
  intro p e s m args below meth c A hE hnoh hA hP hD hS hz ls hl
  obtain ⟨hx, hb, hr, hml, hown, hts, hlocks, hname⟩ := hE
  have hown : s.vm.findClass RX1 = some m.cls := hown
  have hK := hOK.1 _ _ _ hz
  have hN := hOK.2.1 _ _ _ hz
  have hl : lv_has ls 1 [(0, .ref (ah 0))] := hl
  unfold fX1_shifts at hrun
  refine lv_aload_n hx hb dX1_shifts_0 rfl (lv_at hl 0 rfl) ?_
  refine lv_bipush (v := (7 : Int32)) hx hb dX1_shifts_1 (by decide) ?_
  obtain ⟨o_2, hc_1, hrun⟩ := mox_s rfl hrun
  have hP := hP.sub (ws' := ([] ++ (((cH k ah aw adr aim ard asc ath awl alo atr sh) ++ (cR k ard srd)) ++ []))) [0, 1, 2] rfl
  have hD := hD.sub (ws' := ([] ++ (((cH k ah aw adr aim ard asc ath awl alo atr sh) ++ (cR k ard srd)) ++ []))) [0, 1, 2] (by decide) rfl
  refine cXV [] ((cH k ah aw adr aim ard asc ath awl alo atr sh) ++ (cR k ard srd)) [] (As := [.int (7 : Int32)]) (ci := 1) ⟨hx, hb, hml, hown, hts⟩ hOK hz hS hA hP hD (mtX1_tells l D k ah aw adr aim ard asc ath awl alo atr Z hOK hlt hTh _ _ _ o_2 hc_1) (kX1_tells hts q1782 rfl rfl ⟨Nat.le_of_ble_eq_true rfl, Nat.le_of_ble_eq_true rfl⟩) 0 rfl rfl rfl hl.1 rfl (lv_room (Nat.le_of_ble_eq_true rfl)) ⟨Nat.le_of_ble_eq_true rfl, Nat.le_of_ble_eq_true rfl⟩ dX1_shifts_3 (fun E_ w_ ce_ q9_ H locs hq hP hD hS hce hcv hcl => ?_) (fun r_ w_ H locs hq hP hD hS => ?_)
  · obtain ⟨srd_3x, rfl, rfl⟩ := hq
    have hrun := moxl hrun
    cases hrun
    have hP := hP.sub (ws' := ((cH k ah aw adr aim ard asc ath awl alo atr sh) ++ (cR k ard srd_3x))) [0, 1, 2] rfl
    have hD := hD.sub (ws' := ((cH k ah aw adr aim ard asc ath awl alo atr sh) ++ (cR k ard srd_3x))) [0, 1, 2] (by decide) rfl
    exact zout hnoh hlocks hce hcv hcl hP hD hS ⟨_, rfl, rfl⟩ (Nat.le_of_ble_eq_true rfl) (Nat.le_of_ble_eq_true rfl)
  obtain ⟨srd_3, rfl, rfl, rfl⟩ := hq
  have hrun := moxr hrun
  have hP := hP.sub (ws' := ((cH k ah aw adr aim ard asc ath awl alo atr sh) ++ (cR k ard srd_3))) [0, 1, 2] rfl
  have hD := hD.sub (ws' := ((cH k ah aw adr aim ard asc ath awl alo atr sh) ++ (cR k ard srd_3))) [0, 1, 2] (by decide) rfl
  refine lv_aload_n hx hb dX1_shifts_6 rfl (lv_at hl 0 rfl) ?_
  obtain ⟨r_6, hc_5, hrun⟩ := mob_s rfl hrun
  refine cRV (As := []) (ci := 1) ⟨hx, hb, hml, hown, hts⟩ hOK hz hS hP (mtX1_shiftsThatFit l D k ah aw adr aim ard asc ath awl alo atr Z hOK _ _ _ hc_5) (kX1_shiftsThatFit hts q1786 rfl rfl ⟨Nat.le_of_ble_eq_true rfl, Nat.le_of_ble_eq_true rfl⟩) 0 rfl rfl rfl hl.1 rfl (lv_room (Nat.le_of_ble_eq_true rfl)) ⟨Nat.le_of_ble_eq_true rfl, Nat.le_of_ble_eq_true rfl⟩ dX1_shifts_7 ?_
  cases hrun
  refine W.widen (k := 1) (n := 6) (Nat.le_of_ble_eq_true rfl) (Nat.le_of_ble_eq_true rfl) ?_
  exact vx_ret (retW_i hx hb hr hlocks hP hD hS ⟨_, _, rfl, rfl, rfl⟩ dX1_shifts_10)
def rX1_ask : Room := { frames := 8, cells := 1, slots := 6, locals := 132 }
noncomputable def fX1_ask_L33 (srd_3 : Rd) (r_6 : Int32) (r_8 : Int32) : Nat → Int32 → Int32 → Int32 → Option ((String × Rd) ⊕ (Int32 × Rd))
  | 0, _, _, _ => none
  | n + 1, x3_11, x4_12, x5_13 =>
    if (7 : Int32) ≤ x5_13 then
      some (.inr (x3_11, srd_3))
    else
      mob (fX1_has r_6 (mrm (((6 : Int32) - x5_13) + (7 : Int32)) (7 : Int32))) fun r_16 =>
      mjn (fun (y_19 : Bool) =>
      if (zmx (bz y_19) (r_8 - (bz y_19))) < x4_12 then
        fX1_ask_L33 srd_3 r_6 r_8 n x5_13 (zmx (bz y_19) (r_8 - (bz y_19))) (x5_13 + (1 : Int32))
      else
        fX1_ask_L33 srd_3 r_6 r_8 n x3_11 x4_12 (x5_13 + (1 : Int32))) fun K_20 =>
      if r_16 = true then
        K_20 true
      else
        K_20 false
noncomputable def fX1_ask (sh : Kp) (srd : Rd) : Option ((String × Rd) ⊕ (Int32 × Rd)) :=
  mox (fX1_tells sh srd (7 : Int32)) (fun E_4 => some (.inl (E_4.1, (E_4.2)))) fun srd_3 =>
  mob (fX1_shiftsThatFit sh srd_3) fun r_6 =>
  mob (fJ16_bitCount r_6) fun r_8 =>
  if (2 : Int32) ≤ r_8 then
    fX1_ask_L33 srd_3 r_6 r_8 mFU (-1 : Int32) (999 : Int32) (0 : Int32)
  else
    some (.inr ((-1 : Int32), srd_3))
theorem kX1_ask {R : Room} {s : State} {args : Array Value} {own : String} {idx mc ms : Nat} {rm : Room} (hts : ∀ w ∈ lw_all, w.before args s = true) (hl : Cond.methodLink own idx yX1_ask ∈ lw_all) (hrc : rm.cells = mc) (hrs : rm.slots = ms) (hR : rm.frames + 1 ≤ R.frames ∧ 8 + (8 + 11) + rm.locals ≤ R.locals) : CallW R s args own RX1 idx yX1_ask cX1_ask 8 (some .int) (ws_ yX1_ask cX1_ask 8 (some .int)) rm mc ms 0 :=
  cwV 0 hts (lw_V hl q1798 q1799 q107 q1800) rfl hrc hrs (by decide +kernel) hR
set_option maxHeartbeats 4000000 in
set_option maxRecDepth 100000 in
theorem mtX1_ask (l : Launch) (D : va_G) (k : Nat → ClassId) (ah : Nat → Nat) (aw : Nat → Nat) (adr : Nat → Nat) (aim : Nat → Nat) (ard : Nat → Nat) (asc : Nat → Nat) (ath : Nat → Nat) (awl : Nat → Nat) (alo : Nat → Nat) (atr : Nat → Nat) (Z : zZ) (hOK : zOK D zCl (zTys k) Z) (hlt : l.stackTraces = false) (hTh : zTh Z) (sh : Kp) (srd : Rd) (o : (String × Rd) ⊕ (Int32 × Rd)) (hrun : fX1_ask sh srd = some o) :
    CtX l yX1_ask cX1_ask 8 (some .int) rX1_ask Z D zCl ((cH k ah aw adr aim ard asc ath awl alo atr sh) ++ (cR k ard srd)) [.ref (ah 0)] (fun r' w' => ∃ (r : Int32) (ord : Rd), o = .inr (r, ord) ∧ r' = (some (.int r)) ∧ w' = ((cH k ah aw adr aim ard asc ath awl alo atr sh) ++ (cR k ard ord))) (fun E' w' => ∃ (ord : Rd), o = .inl (E', ord) ∧ w' = ((cH k ah aw adr aim ard asc ath awl alo atr sh) ++ (cR k ard ord))) 1 6 := by
  refine CtX.of (by decide) (Nat.le_of_ble_eq_true rfl) ?_
  intro p e s m args below meth c A hE hnoh hA hP hD hS hz ls hl
  obtain ⟨hx, hb, hr, hml, hown, hts, hlocks, hname⟩ := hE
  have hown : s.vm.findClass RX1 = some m.cls := hown
  have hK := hOK.1 _ _ _ hz
  have hN := hOK.2.1 _ _ _ hz
  have hl : lv_has ls 8 [(0, .ref (ah 0))] := hl
  unfold fX1_ask at hrun
  refine lv_aload_n hx hb dX1_ask_0 rfl (lv_at hl 0 rfl) ?_
  refine lv_bipush (v := (7 : Int32)) hx hb dX1_ask_1 (by decide) ?_
  obtain ⟨o_2, hc_1, hrun⟩ := mox_s rfl hrun
  have hP := hP.sub (ws' := ([] ++ (((cH k ah aw adr aim ard asc ath awl alo atr sh) ++ (cR k ard srd)) ++ []))) [0, 1, 2] rfl
  have hD := hD.sub (ws' := ([] ++ (((cH k ah aw adr aim ard asc ath awl alo atr sh) ++ (cR k ard srd)) ++ []))) [0, 1, 2] (by decide) rfl
  refine cXV [] ((cH k ah aw adr aim ard asc ath awl alo atr sh) ++ (cR k ard srd)) [] (As := [.int (7 : Int32)]) (ci := 1) ⟨hx, hb, hml, hown, hts⟩ hOK hz hS hA hP hD (mtX1_tells l D k ah aw adr aim ard asc ath awl alo atr Z hOK hlt hTh _ _ _ o_2 hc_1) (kX1_tells hts q1782 rfl rfl ⟨Nat.le_of_ble_eq_true rfl, Nat.le_of_ble_eq_true rfl⟩) 0 rfl rfl rfl hl.1 rfl (lv_room (Nat.le_of_ble_eq_true rfl)) ⟨Nat.le_of_ble_eq_true rfl, Nat.le_of_ble_eq_true rfl⟩ dX1_ask_3 (fun E_ w_ ce_ q9_ H locs hq hP hD hS hce hcv hcl => ?_) (fun r_ w_ H locs hq hP hD hS => ?_)
  · obtain ⟨srd_3x, rfl, rfl⟩ := hq
    have hrun := moxl hrun
    cases hrun
    have hP := hP.sub (ws' := ((cH k ah aw adr aim ard asc ath awl alo atr sh) ++ (cR k ard srd_3x))) [0, 1, 2] rfl
    have hD := hD.sub (ws' := ((cH k ah aw adr aim ard asc ath awl alo atr sh) ++ (cR k ard srd_3x))) [0, 1, 2] (by decide) rfl
    exact zout hnoh hlocks hce hcv hcl hP hD hS ⟨_, rfl, rfl⟩ (Nat.le_of_ble_eq_true rfl) (Nat.le_of_ble_eq_true rfl)
  obtain ⟨srd_3, rfl, rfl, rfl⟩ := hq
  have hrun := moxr hrun
  have hP := hP.sub (ws' := ((cH k ah aw adr aim ard asc ath awl alo atr sh) ++ (cR k ard srd_3))) [0, 1, 2] rfl
  have hD := hD.sub (ws' := ((cH k ah aw adr aim ard asc ath awl alo atr sh) ++ (cR k ard srd_3))) [0, 1, 2] (by decide) rfl
  refine lv_aload_n hx hb dX1_ask_6 rfl (lv_at hl 0 rfl) ?_
  obtain ⟨r_6, hc_5, hrun⟩ := mob_s rfl hrun
  refine cRV (As := []) (ci := 1) ⟨hx, hb, hml, hown, hts⟩ hOK hz hS hP (mtX1_shiftsThatFit l D k ah aw adr aim ard asc ath awl alo atr Z hOK _ _ _ hc_5) (kX1_shiftsThatFit hts q1786 rfl rfl ⟨Nat.le_of_ble_eq_true rfl, Nat.le_of_ble_eq_true rfl⟩) 0 rfl rfl rfl hl.1 rfl (lv_room (Nat.le_of_ble_eq_true rfl)) ⟨Nat.le_of_ble_eq_true rfl, Nat.le_of_ble_eq_true rfl⟩ dX1_ask_7 ?_
  refine lv_istore_n (lv' := [(1, .int r_6), (0, .ref (ah 0))]) hx hb dX1_ask_10 rfl hl (by decide) rfl (fun ls hl => ?_)
  refine lv_iload_n hx hb dX1_ask_11 rfl (lv_at hl 0 rfl) ?_
  obtain ⟨r_8, hc_7, hrun⟩ := mob_s rfl hrun
  refine cRS (ws := []) (As := [.int r_6]) ⟨hx, hb, hml, hown, hts⟩ hOK hz hS zP0 (mtJ16_bitCount l D Z hOK _ _ hc_7) (kJ16_bitCount hts q456 rfl rfl ⟨Nat.le_of_ble_eq_true rfl, Nat.le_of_ble_eq_true rfl⟩) rfl hl.1 rfl (lv_room (Nat.le_of_ble_eq_true rfl)) ⟨Nat.le_of_ble_eq_true rfl, Nat.le_of_ble_eq_true rfl⟩ dX1_ask_12 ?_
  refine lv_istore_n (lv' := [(2, .int r_8), (1, .int r_6), (0, .ref (ah 0))]) hx hb dX1_ask_15 rfl hl (by decide) rfl (fun ls hl => ?_)
  refine lv_iload_n hx hb dX1_ask_16 rfl (lv_at hl 0 rfl) ?_
  refine lv_iconst (v := (2 : Int32)) hx hb dX1_ask_17 (by decide) ?_
  refine lv_icmp_ge (tgt := 23) hx hb dX1_ask_18 (by decide) (fun c_9 => ?_) (fun c_9 => ?_)
  · have hrun := mif_p c_9 hrun
    refine lv_iconst (v := (-1 : Int32)) hx hb dX1_ask_23 (by decide) ?_
    refine lv_istore_n (lv' := [(3, .int (-1 : Int32)), (2, .int r_8), (1, .int r_6), (0, .ref (ah 0))]) hx hb dX1_ask_24 rfl hl (by decide) rfl (fun ls hl => ?_)
    refine lv_sipush (v := (999 : Int32)) hx hb dX1_ask_25 (by decide) ?_
    refine lv_istore (lv' := [(4, .int (999 : Int32)), (3, .int (-1 : Int32)), (2, .int r_8), (1, .int r_6), (0, .ref (ah 0))]) hx hb dX1_ask_28 hl (by decide) rfl (fun ls hl => ?_)
    refine lv_iconst (v := (0 : Int32)) hx hb dX1_ask_30 (by decide) ?_
    refine lv_istore (lv' := [(5, .int (0 : Int32)), (4, .int (999 : Int32)), (3, .int (-1 : Int32)), (2, .int r_8), (1, .int r_6), (0, .ref (ah 0))]) hx hb dX1_ask_31 hl (by decide) rfl (fun ls hl => ?_)
    have hL_10 : ∀ n : Nat, ∀ (x3_11 : Int32) (x4_12 : Int32) (x5_13 : Int32), ∀ (H : Heap) (locs : List Loc), va_P D zCl ((cH k ah aw adr aim ard asc ath awl alo atr sh) ++ (cR k ard srd_3)) H → va_D A ((cH k ah aw adr aim ard asc ath awl alo atr sh) ++ (cR k ard srd_3)) → va_S A s.heap H locs → ∀ ls : Array Slot, lv_has ls 8 [(1, .int r_6), (2, .int r_8), (3, .int x3_11), (4, .int x4_12), (5, .int x5_13)] → fX1_ask_L33 srd_3 r_6 r_8 n x3_11 x4_12 x5_13 = some o → W p l e rX1_ask s m args below meth c H locs 1 6 (vx_MQ below (QWr (fun r' w' => ∃ (r : Int32) (ord : Rd), o = .inr (r, ord) ∧ r' = (some (.int r)) ∧ w' = ((cH k ah aw adr aim ard asc ath awl alo atr sh) ++ (cR k ard ord))) D zCl A) (QXr (fun E' w' => ∃ (ord : Rd), o = .inl (E', ord) ∧ w' = ((cH k ah aw adr aim ard asc ath awl alo atr sh) ++ (cR k ard ord))) D zCl A) args s 1 6 A) (F0 m 33 ls []) := by
      intro n
      induction n with
      | zero =>
        intro x3_11 x4_12 x5_13 H locs hP hD hS ls hl hrun
        exact nomatch hrun
      | succ n ih =>
        intro x3_11 x4_12 x5_13 H locs hP hD hS ls hl hrun
        rw [fX1_ask_L33.eq_2] at hrun
        refine lv_iload hx hb dX1_ask_33 (lv_at hl 4 rfl) ?_
        refine lv_bipush (v := (7 : Int32)) hx hb dX1_ask_35 (by decide) ?_
        refine lv_icmp_ge (tgt := 99) hx hb dX1_ask_37 (by decide) (fun c_14 => ?_) (fun c_14 => ?_)
        · have hrun := mif_p c_14 hrun
          refine lv_iload_n hx hb dX1_ask_99 rfl (lv_at hl 2 rfl) ?_
          cases hrun
          refine W.widen (k := 1) (n := 6) (Nat.le_of_ble_eq_true rfl) (Nat.le_of_ble_eq_true rfl) ?_
          exact vx_ret (retW_i hx hb hr hlocks hP hD hS ⟨_, _, rfl, rfl, rfl⟩ dX1_ask_100)
        have hrun := mif_n c_14 hrun
        refine lv_iload_n hx hb dX1_ask_40 rfl (lv_at hl 0 rfl) ?_
        refine lv_bipush (v := (6 : Int32)) hx hb dX1_ask_41 (by decide) ?_
        refine lv_iload hx hb dX1_ask_43 (lv_at hl 4 rfl) ?_
        refine lv_isub hx hb dX1_ask_45 ?_
        refine lv_bipush (v := (7 : Int32)) hx hb dX1_ask_46 (by decide) ?_
        refine lv_iadd hx hb dX1_ask_48 ?_
        refine lv_bipush (v := (7 : Int32)) hx hb dX1_ask_49 (by decide) ?_
        refine lv_irem hx hb dX1_ask_51 (by decide) ?_
        obtain ⟨r_16, hc_15, hrun⟩ := mob_s rfl hrun
        refine cRS (ws := []) (As := [.int r_6, .int (mrm (((6 : Int32) - x5_13) + (7 : Int32)) (7 : Int32))]) ⟨hx, hb, hml, hown, hts⟩ hOK hz hS zP0 (mtX1_has l D Z hOK _ _ _ hc_15) (kX1_has hts q586 rfl rfl ⟨Nat.le_of_ble_eq_true rfl, Nat.le_of_ble_eq_true rfl⟩) rfl hl.1 rfl (lv_room (Nat.le_of_ble_eq_true rfl)) ⟨Nat.le_of_ble_eq_true rfl, Nat.le_of_ble_eq_true rfl⟩ dX1_ask_52 ?_
        obtain ⟨K_20, hK_20, hrun⟩ := mjn_s hrun
        have hj_18 : ∀ (y_19 : Bool), ∀ (H : Heap) (locs : List Loc), va_P D zCl ((cH k ah aw adr aim ard asc ath awl alo atr sh) ++ (cR k ard srd_3)) H → va_D A ((cH k ah aw adr aim ard asc ath awl alo atr sh) ++ (cR k ard srd_3)) → va_S A s.heap H locs → ∀ ls : Array Slot, lv_has ls 8 [(1, .int r_6), (2, .int r_8), (3, .int x3_11), (4, .int x4_12), (5, .int x5_13)] → K_20 y_19 = some o → W p l e rX1_ask s m args below meth c H locs 1 6 (vx_MQ below (QWr (fun r' w' => ∃ (r : Int32) (ord : Rd), o = .inr (r, ord) ∧ r' = (some (.int r)) ∧ w' = ((cH k ah aw adr aim ard asc ath awl alo atr sh) ++ (cR k ard ord))) D zCl A) (QXr (fun E' w' => ∃ (ord : Rd), o = .inl (E', ord) ∧ w' = ((cH k ah aw adr aim ard asc ath awl alo atr sh) ++ (cR k ard ord))) D zCl A) args s 1 6 A) (F0 m 63 ls [.int (bz y_19)]) := by
          intro y_19 H locs hP hD hS ls hl hrun
          rw [hK_20] at hrun
          refine lv_istore (lv' := [(6, .int (bz y_19)), (1, .int r_6), (2, .int r_8), (3, .int x3_11), (4, .int x4_12), (5, .int x5_13)]) hx hb dX1_ask_63 hl (by decide) rfl (fun ls hl => ?_)
          refine lv_iload hx hb dX1_ask_65 (lv_at hl 0 rfl) ?_
          refine lv_iload_n hx hb dX1_ask_67 rfl (lv_at hl 2 rfl) ?_
          refine lv_iload hx hb dX1_ask_68 (lv_at hl 0 rfl) ?_
          refine lv_isub hx hb dX1_ask_70 ?_
          refine va_mmax hx hb (hml.trans hl.1.symm) hown (hts _ q1801) (hts _ q553) (hts _ q122) (hts _ q554) (Nat.le_of_ble_eq_true rfl) (Nat.le_of_ble_eq_true rfl) (Nat.le_of_ble_eq_true rfl) (Nat.le_of_ble_eq_true rfl) dX1_ask_71 ?_
          refine lv_istore (lv' := [(7, .int (zmx (bz y_19) (r_8 - (bz y_19)))), (6, .int (bz y_19)), (1, .int r_6), (2, .int r_8), (3, .int x3_11), (4, .int x4_12), (5, .int x5_13)]) hx hb dX1_ask_74 hl (by decide) rfl (fun ls hl => ?_)
          refine lv_iload hx hb dX1_ask_76 (lv_at hl 0 rfl) ?_
          refine lv_iload hx hb dX1_ask_78 (lv_at hl 5 rfl) ?_
          refine lv_icmp_lt (tgt := 86) hx hb dX1_ask_80 (by decide) (fun c_21 => ?_) (fun c_21 => ?_)
          · have hrun := mif_p c_21 hrun
            refine lv_iload hx hb dX1_ask_86 (lv_at hl 6 rfl) ?_
            refine lv_istore_n (lv' := [(3, .int x5_13), (7, .int (zmx (bz y_19) (r_8 - (bz y_19)))), (6, .int (bz y_19)), (1, .int r_6), (2, .int r_8), (4, .int x4_12), (5, .int x5_13)]) hx hb dX1_ask_88 rfl hl (by decide) rfl (fun ls hl => ?_)
            refine lv_iload hx hb dX1_ask_89 (lv_at hl 1 rfl) ?_
            refine lv_istore (lv' := [(4, .int (zmx (bz y_19) (r_8 - (bz y_19)))), (3, .int x5_13), (7, .int (zmx (bz y_19) (r_8 - (bz y_19)))), (6, .int (bz y_19)), (1, .int r_6), (2, .int r_8), (5, .int x5_13)]) hx hb dX1_ask_91 hl (by decide) rfl (fun ls hl => ?_)
            refine lv_iinc (v := (x5_13 + (1 : Int32))) (lv' := [(5, .int (x5_13 + (1 : Int32))), (4, .int (zmx (bz y_19) (r_8 - (bz y_19)))), (3, .int x5_13), (7, .int (zmx (bz y_19) (r_8 - (bz y_19)))), (6, .int (bz y_19)), (1, .int r_6), (2, .int r_8)]) hx hb dX1_ask_93 hl (k := 6) rfl rfl (by decide) rfl (fun ls hl => ?_)
            refine lv_goto (tgt := 33) hx hb dX1_ask_96 (by decide) ?_
            exact ih x5_13 (zmx (bz y_19) (r_8 - (bz y_19))) (x5_13 + (1 : Int32)) _ _ hP hD hS ls (lv_sub hl [5, 6, 2, 1, 0] rfl) hrun
          have hrun := mif_n c_21 hrun
          refine lv_goto (tgt := 93) hx hb dX1_ask_83 (by decide) ?_
          refine lv_iinc (v := (x5_13 + (1 : Int32))) (lv' := [(5, .int (x5_13 + (1 : Int32))), (7, .int (zmx (bz y_19) (r_8 - (bz y_19)))), (6, .int (bz y_19)), (1, .int r_6), (2, .int r_8), (3, .int x3_11), (4, .int x4_12)]) hx hb dX1_ask_93 hl (k := 6) rfl rfl (by decide) rfl (fun ls hl => ?_)
          refine lv_goto (tgt := 33) hx hb dX1_ask_96 (by decide) ?_
          exact ih x3_11 x4_12 (x5_13 + (1 : Int32)) _ _ hP hD hS ls (lv_sub hl [3, 4, 5, 6, 0] rfl) hrun
        refine lv_if_eq (tgt := 62) hx hb dX1_ask_55 (by decide) (fun c_17 => ?_) (fun c_17 => ?_)
        · have hrun := mif_n (bz_z c_17) hrun
          refine lv_iconst (v := (0 : Int32)) hx hb dX1_ask_62 (by decide) ?_
          exact hj_18 false _ _ hP hD hS ls (lv_sub hl [0, 1, 2, 3, 4] rfl) hrun
        have hrun := mif_p (bz_nz c_17) hrun
        refine lv_iconst (v := (1 : Int32)) hx hb dX1_ask_58 (by decide) ?_
        refine lv_goto (tgt := 63) hx hb dX1_ask_59 (by decide) ?_
        exact hj_18 true _ _ hP hD hS ls (lv_sub hl [0, 1, 2, 3, 4] rfl) hrun
    exact hL_10 mFU (-1 : Int32) (999 : Int32) (0 : Int32) _ _ hP hD hS ls (lv_sub hl [4, 3, 2, 1, 0] rfl) hrun
  have hrun := mif_n c_9 hrun
  refine lv_iconst (v := (-1 : Int32)) hx hb dX1_ask_21 (by decide) ?_
  cases hrun
  refine W.widen (k := 1) (n := 6) (Nat.le_of_ble_eq_true rfl) (Nat.le_of_ble_eq_true rfl) ?_
  exact vx_ret (retW_i hx hb hr hlocks hP hD hS ⟨_, _, rfl, rfl, rfl⟩ dX1_ask_22)
def rX1_bored : Room := { frames := 8, cells := 1, slots := 6, locals := 132 }
noncomputable def fX1_bored_L14 (K_8 : Int32 → Int32 → Option ((String × Rd) ⊕ (Int32 × Rd))) (sh : Kp) (srd_3 : Rd) : Nat → Int32 → Int32 → Int32 → Option ((String × Rd) ⊕ (Int32 × Rd))
  | 0, _, _, _ => none
  | n + 1, x2_11, x3_12, x4_13 =>
    if x4_13 < (0 : Int32) then
      K_8 x2_11 x3_12
    else
      mob (fX1_isWeek sh srd_3 x4_13) fun r_16 =>
      if r_16 = true then
        fX1_bored_L14 K_8 sh srd_3 n (x2_11 + (1 : Int32)) x4_13 (x4_13 + (-1 : Int32))
      else
        fX1_bored_L14 K_8 sh srd_3 n x2_11 x3_12 (x4_13 + (-1 : Int32))
noncomputable def fX1_bored (sh : Kp) (srd : Rd) (p1 : Bool) : Option ((String × Rd) ⊕ (Int32 × Rd)) :=
  mox (fX1_tells sh srd (52 : Int32)) (fun E_4 => some (.inl (E_4.1, (E_4.2)))) fun srd_3 =>
  mjn (fun (x2_6 : Int32) (x3_7 : Int32) =>
  if p1 = true then
    some (.inr (x3_7, srd_3))
  else
    some (.inr (x2_6, srd_3))) fun K_8 =>
  fX1_bored_L14 K_8 sh srd_3 mFU (0 : Int32) (-1 : Int32) (51 : Int32)
theorem kX1_bored {R : Room} {s : State} {args : Array Value} {own : String} {idx mc ms : Nat} {rm : Room} (hts : ∀ w ∈ lw_all, w.before args s = true) (hl : Cond.methodLink own idx yX1_bored ∈ lw_all) (hrc : rm.cells = mc) (hrs : rm.slots = ms) (hR : rm.frames + 1 ≤ R.frames ∧ 8 + (5 + 11) + rm.locals ≤ R.locals) : CallW R s args own RX1 idx yX1_bored cX1_bored 5 (some .int) (ws_ yX1_bored cX1_bored 5 (some .int)) rm mc ms 1 :=
  cwV 1 hts (lw_V hl q1806 q1807 q107 q1808) rfl hrc hrs (by decide +kernel) hR
set_option maxHeartbeats 4000000 in
set_option maxRecDepth 100000 in
theorem mtX1_bored (l : Launch) (D : va_G) (k : Nat → ClassId) (ah : Nat → Nat) (aw : Nat → Nat) (adr : Nat → Nat) (aim : Nat → Nat) (ard : Nat → Nat) (asc : Nat → Nat) (ath : Nat → Nat) (awl : Nat → Nat) (alo : Nat → Nat) (atr : Nat → Nat) (Z : zZ) (hOK : zOK D zCl (zTys k) Z) (hlt : l.stackTraces = false) (hTh : zTh Z) (sh : Kp) (srd : Rd) (p1 : Bool) (o : (String × Rd) ⊕ (Int32 × Rd)) (hrun : fX1_bored sh srd p1 = some o) :
    CtX l yX1_bored cX1_bored 5 (some .int) rX1_bored Z D zCl ((cH k ah aw adr aim ard asc ath awl alo atr sh) ++ (cR k ard srd)) [.ref (ah 0), .int (bz p1)] (fun r' w' => ∃ (r : Int32) (ord : Rd), o = .inr (r, ord) ∧ r' = (some (.int r)) ∧ w' = ((cH k ah aw adr aim ard asc ath awl alo atr sh) ++ (cR k ard ord))) (fun E' w' => ∃ (ord : Rd), o = .inl (E', ord) ∧ w' = ((cH k ah aw adr aim ard asc ath awl alo atr sh) ++ (cR k ard ord))) 1 6 := by
  refine CtX.of (by decide) (Nat.le_of_ble_eq_true rfl) ?_
  intro p e s m args below meth c A hE hnoh hA hP hD hS hz ls hl
  obtain ⟨hx, hb, hr, hml, hown, hts, hlocks, hname⟩ := hE
  have hown : s.vm.findClass RX1 = some m.cls := hown
  have hK := hOK.1 _ _ _ hz
  have hN := hOK.2.1 _ _ _ hz
  have hl : lv_has ls 5 [(0, .ref (ah 0)), (1, .int (bz p1))] := hl
  unfold fX1_bored at hrun
  refine lv_aload_n hx hb dX1_bored_0 rfl (lv_at hl 0 rfl) ?_
  refine lv_bipush (v := (52 : Int32)) hx hb dX1_bored_1 (by decide) ?_
  obtain ⟨o_2, hc_1, hrun⟩ := mox_s rfl hrun
  have hP := hP.sub (ws' := ([] ++ (((cH k ah aw adr aim ard asc ath awl alo atr sh) ++ (cR k ard srd)) ++ []))) [0, 1, 2] rfl
  have hD := hD.sub (ws' := ([] ++ (((cH k ah aw adr aim ard asc ath awl alo atr sh) ++ (cR k ard srd)) ++ []))) [0, 1, 2] (by decide) rfl
  refine cXV [] ((cH k ah aw adr aim ard asc ath awl alo atr sh) ++ (cR k ard srd)) [] (As := [.int (52 : Int32)]) (ci := 1) ⟨hx, hb, hml, hown, hts⟩ hOK hz hS hA hP hD (mtX1_tells l D k ah aw adr aim ard asc ath awl alo atr Z hOK hlt hTh _ _ _ o_2 hc_1) (kX1_tells hts q1782 rfl rfl ⟨Nat.le_of_ble_eq_true rfl, Nat.le_of_ble_eq_true rfl⟩) 0 rfl rfl rfl hl.1 rfl (lv_room (Nat.le_of_ble_eq_true rfl)) ⟨Nat.le_of_ble_eq_true rfl, Nat.le_of_ble_eq_true rfl⟩ dX1_bored_3 (fun E_ w_ ce_ q9_ H locs hq hP hD hS hce hcv hcl => ?_) (fun r_ w_ H locs hq hP hD hS => ?_)
  · obtain ⟨srd_3x, rfl, rfl⟩ := hq
    have hrun := moxl hrun
    cases hrun
    have hP := hP.sub (ws' := ((cH k ah aw adr aim ard asc ath awl alo atr sh) ++ (cR k ard srd_3x))) [0, 1, 2] rfl
    have hD := hD.sub (ws' := ((cH k ah aw adr aim ard asc ath awl alo atr sh) ++ (cR k ard srd_3x))) [0, 1, 2] (by decide) rfl
    exact zout hnoh hlocks hce hcv hcl hP hD hS ⟨_, rfl, rfl⟩ (Nat.le_of_ble_eq_true rfl) (Nat.le_of_ble_eq_true rfl)
  obtain ⟨srd_3, rfl, rfl, rfl⟩ := hq
  have hrun := moxr hrun
  have hP := hP.sub (ws' := ((cH k ah aw adr aim ard asc ath awl alo atr sh) ++ (cR k ard srd_3))) [0, 1, 2] rfl
  have hD := hD.sub (ws' := ((cH k ah aw adr aim ard asc ath awl alo atr sh) ++ (cR k ard srd_3))) [0, 1, 2] (by decide) rfl
  refine lv_iconst (v := (0 : Int32)) hx hb dX1_bored_6 (by decide) ?_
  refine lv_istore_n (lv' := [(2, .int (0 : Int32)), (0, .ref (ah 0)), (1, .int (bz p1))]) hx hb dX1_bored_7 rfl hl (by decide) rfl (fun ls hl => ?_)
  refine lv_iconst (v := (-1 : Int32)) hx hb dX1_bored_8 (by decide) ?_
  refine lv_istore_n (lv' := [(3, .int (-1 : Int32)), (2, .int (0 : Int32)), (0, .ref (ah 0)), (1, .int (bz p1))]) hx hb dX1_bored_9 rfl hl (by decide) rfl (fun ls hl => ?_)
  refine lv_bipush (v := (51 : Int32)) hx hb dX1_bored_10 (by decide) ?_
  refine lv_istore (lv' := [(4, .int (51 : Int32)), (3, .int (-1 : Int32)), (2, .int (0 : Int32)), (0, .ref (ah 0)), (1, .int (bz p1))]) hx hb dX1_bored_12 hl (by decide) rfl (fun ls hl => ?_)
  obtain ⟨K_8, hK_8, hrun⟩ := mjn_s hrun
  have hj_5 : ∀ (x2_6 : Int32) (x3_7 : Int32), ∀ (H : Heap) (locs : List Loc), va_P D zCl ((cH k ah aw adr aim ard asc ath awl alo atr sh) ++ (cR k ard srd_3)) H → va_D A ((cH k ah aw adr aim ard asc ath awl alo atr sh) ++ (cR k ard srd_3)) → va_S A s.heap H locs → ∀ ls : Array Slot, lv_has ls 5 [(1, .int (bz p1)), (2, .int x2_6), (3, .int x3_7)] → K_8 x2_6 x3_7 = some o → W p l e rX1_bored s m args below meth c H locs 1 6 (vx_MQ below (QWr (fun r' w' => ∃ (r : Int32) (ord : Rd), o = .inr (r, ord) ∧ r' = (some (.int r)) ∧ w' = ((cH k ah aw adr aim ard asc ath awl alo atr sh) ++ (cR k ard ord))) D zCl A) (QXr (fun E' w' => ∃ (ord : Rd), o = .inl (E', ord) ∧ w' = ((cH k ah aw adr aim ard asc ath awl alo atr sh) ++ (cR k ard ord))) D zCl A) args s 1 6 A) (F0 m 43 ls []) := by
    intro x2_6 x3_7 H locs hP hD hS ls hl hrun
    rw [hK_8] at hrun
    refine lv_iload_n hx hb dX1_bored_43 rfl (lv_at hl 0 rfl) ?_
    refine lv_if_eq (tgt := 51) hx hb dX1_bored_44 (by decide) (fun c_9 => ?_) (fun c_9 => ?_)
    · have hrun := mif_n (bz_z c_9) hrun
      refine lv_iload_n hx hb dX1_bored_51 rfl (lv_at hl 1 rfl) ?_
      cases hrun
      refine W.widen (k := 1) (n := 6) (Nat.le_of_ble_eq_true rfl) (Nat.le_of_ble_eq_true rfl) ?_
      exact vx_ret (retW_i hx hb hr hlocks hP hD hS ⟨_, _, rfl, rfl, rfl⟩ dX1_bored_52)
    have hrun := mif_p (bz_nz c_9) hrun
    refine lv_iload_n hx hb dX1_bored_47 rfl (lv_at hl 2 rfl) ?_
    refine lv_goto (tgt := 52) hx hb dX1_bored_48 (by decide) ?_
    cases hrun
    refine W.widen (k := 1) (n := 6) (Nat.le_of_ble_eq_true rfl) (Nat.le_of_ble_eq_true rfl) ?_
    exact vx_ret (retW_i hx hb hr hlocks hP hD hS ⟨_, _, rfl, rfl, rfl⟩ dX1_bored_52)
  have hL_10 : ∀ n : Nat, ∀ (x2_11 : Int32) (x3_12 : Int32) (x4_13 : Int32), ∀ (H : Heap) (locs : List Loc), va_P D zCl ((cH k ah aw adr aim ard asc ath awl alo atr sh) ++ (cR k ard srd_3)) H → va_D A ((cH k ah aw adr aim ard asc ath awl alo atr sh) ++ (cR k ard srd_3)) → va_S A s.heap H locs → ∀ ls : Array Slot, lv_has ls 5 [(0, .ref (ah 0)), (1, .int (bz p1)), (2, .int x2_11), (3, .int x3_12), (4, .int x4_13)] → fX1_bored_L14 K_8 sh srd_3 n x2_11 x3_12 x4_13 = some o → W p l e rX1_bored s m args below meth c H locs 1 6 (vx_MQ below (QWr (fun r' w' => ∃ (r : Int32) (ord : Rd), o = .inr (r, ord) ∧ r' = (some (.int r)) ∧ w' = ((cH k ah aw adr aim ard asc ath awl alo atr sh) ++ (cR k ard ord))) D zCl A) (QXr (fun E' w' => ∃ (ord : Rd), o = .inl (E', ord) ∧ w' = ((cH k ah aw adr aim ard asc ath awl alo atr sh) ++ (cR k ard ord))) D zCl A) args s 1 6 A) (F0 m 14 ls []) := by
    intro n
    induction n with
    | zero =>
      intro x2_11 x3_12 x4_13 H locs hP hD hS ls hl hrun
      exact nomatch hrun
    | succ n ih =>
      intro x2_11 x3_12 x4_13 H locs hP hD hS ls hl hrun
      rw [fX1_bored_L14.eq_2] at hrun
      refine lv_iload hx hb dX1_bored_14 (lv_at hl 4 rfl) ?_
      refine lv_if_lt (tgt := 43) hx hb dX1_bored_16 (by decide) (fun c_14 => ?_) (fun c_14 => ?_)
      · have hrun := mif_p c_14 hrun
        exact hj_5 x2_11 x3_12 _ _ hP hD hS ls (lv_sub hl [1, 2, 3] rfl) hrun
      have hrun := mif_n c_14 hrun
      refine lv_aload_n hx hb dX1_bored_19 rfl (lv_at hl 0 rfl) ?_
      refine lv_iload hx hb dX1_bored_20 (lv_at hl 4 rfl) ?_
      obtain ⟨r_16, hc_15, hrun⟩ := mob_s rfl hrun
      refine cRV (As := [.int x4_13]) (ci := 1) ⟨hx, hb, hml, hown, hts⟩ hOK hz hS hP (mtX1_isWeek l D k ah aw adr aim ard asc ath awl alo atr Z hOK _ _ _ _ hc_15) (kX1_isWeek hts q1809 rfl rfl ⟨Nat.le_of_ble_eq_true rfl, Nat.le_of_ble_eq_true rfl⟩) 0 rfl rfl rfl hl.1 rfl (lv_room (Nat.le_of_ble_eq_true rfl)) ⟨Nat.le_of_ble_eq_true rfl, Nat.le_of_ble_eq_true rfl⟩ dX1_bored_22 ?_
      refine lv_if_ne (tgt := 31) hx hb dX1_bored_25 (by decide) (fun c_17 => ?_) (fun c_17 => ?_)
      · have hrun := mif_p (bz_nz c_17) hrun
        refine lv_iinc (v := (x2_11 + (1 : Int32))) (lv' := [(2, .int (x2_11 + (1 : Int32))), (0, .ref (ah 0)), (1, .int (bz p1)), (3, .int x3_12), (4, .int x4_13)]) hx hb dX1_bored_31 hl (k := 2) rfl rfl (by decide) rfl (fun ls hl => ?_)
        refine lv_iload hx hb dX1_bored_34 (lv_at hl 4 rfl) ?_
        refine lv_istore_n (lv' := [(3, .int x4_13), (2, .int (x2_11 + (1 : Int32))), (0, .ref (ah 0)), (1, .int (bz p1)), (4, .int x4_13)]) hx hb dX1_bored_36 rfl hl (by decide) rfl (fun ls hl => ?_)
        refine lv_iinc (v := (x4_13 + (-1 : Int32))) (lv' := [(4, .int (x4_13 + (-1 : Int32))), (3, .int x4_13), (2, .int (x2_11 + (1 : Int32))), (0, .ref (ah 0)), (1, .int (bz p1))]) hx hb dX1_bored_37 hl (k := 4) rfl rfl (by decide) rfl (fun ls hl => ?_)
        refine lv_goto (tgt := 14) hx hb dX1_bored_40 (by decide) ?_
        exact ih (x2_11 + (1 : Int32)) x4_13 (x4_13 + (-1 : Int32)) _ _ hP hD hS ls (lv_sub hl [3, 4, 2, 1, 0] rfl) hrun
      have hrun := mif_n (bz_z c_17) hrun
      refine lv_goto (tgt := 37) hx hb dX1_bored_28 (by decide) ?_
      refine lv_iinc (v := (x4_13 + (-1 : Int32))) (lv' := [(4, .int (x4_13 + (-1 : Int32))), (0, .ref (ah 0)), (1, .int (bz p1)), (2, .int x2_11), (3, .int x3_12)]) hx hb dX1_bored_37 hl (k := 4) rfl rfl (by decide) rfl (fun ls hl => ?_)
      refine lv_goto (tgt := 14) hx hb dX1_bored_40 (by decide) ?_
      exact ih x2_11 x3_12 (x4_13 + (-1 : Int32)) _ _ hP hD hS ls (lv_sub hl [1, 2, 3, 4, 0] rfl) hrun
  exact hL_10 mFU (0 : Int32) (-1 : Int32) (51 : Int32) _ _ hP hD hS ls (lv_sub hl [3, 4, 2, 1, 0] rfl) hrun
def rX1_look : Room := { frames := 8, cells := 1, slots := 6, locals := 132 }
noncomputable def fX1_look_L57 (srd_3 : Rd) (sh : Kp) (x1_6 : Int32) : Nat → Int32 → Int32 → Int32 → Int32 → Option ((String × Rd) ⊕ (Int32 × Rd))
  | 0, _, _, _, _ => none
  | n + 1, x2_10, x3_11, x4_12, x5_13 =>
    if (52 : Int32) ≤ x5_13 then
      some (.inr (x2_10, srd_3))
    else
      mob (fX1_isWeek sh srd_3 x5_13) fun r_16 =>
      mjn (fun (y_19 : Bool) =>
      if (zmx (x4_12 + (bz y_19)) (x1_6 - (x4_12 + (bz y_19)))) < x3_11 then
        fX1_look_L57 srd_3 sh x1_6 n x5_13 (zmx (x4_12 + (bz y_19)) (x1_6 - (x4_12 + (bz y_19)))) (x4_12 + (bz y_19)) (x5_13 + (1 : Int32))
      else
        fX1_look_L57 srd_3 sh x1_6 n x2_10 x3_11 (x4_12 + (bz y_19)) (x5_13 + (1 : Int32))) fun K_20 =>
      if r_16 = true then
        K_20 true
      else
        K_20 false
noncomputable def fX1_look_L10 (K_7 : Int32 → Option ((String × Rd) ⊕ (Int32 × Rd))) (sh : Kp) (srd_3 : Rd) : Nat → Int32 → Int32 → Option ((String × Rd) ⊕ (Int32 × Rd))
  | 0, _, _ => none
  | n + 1, x1_24, x2_25 =>
    if (52 : Int32) ≤ x2_25 then
      K_7 x1_24
    else
      mob (fX1_isWeek sh srd_3 x2_25) fun r_28 =>
      if r_28 = true then
        fX1_look_L10 K_7 sh srd_3 n (x1_24 + (1 : Int32)) (x2_25 + (1 : Int32))
      else
        fX1_look_L10 K_7 sh srd_3 n (x1_24 + (0 : Int32)) (x2_25 + (1 : Int32))
noncomputable def fX1_look (sh : Kp) (srd : Rd) : Option ((String × Rd) ⊕ (Int32 × Rd)) :=
  mox (fX1_tells sh srd (52 : Int32)) (fun E_4 => some (.inl (E_4.1, (E_4.2)))) fun srd_3 =>
  mjn (fun (x1_6 : Int32) =>
  if (2 : Int32) ≤ x1_6 then
    fX1_look_L57 srd_3 sh x1_6 mFU (-1 : Int32) (999 : Int32) (0 : Int32) (0 : Int32)
  else
    some (.inr ((-1 : Int32), srd_3))) fun K_7 =>
  fX1_look_L10 K_7 sh srd_3 mFU (0 : Int32) (0 : Int32)
theorem kX1_look {R : Room} {s : State} {args : Array Value} {own : String} {idx mc ms : Nat} {rm : Room} (hts : ∀ w ∈ lw_all, w.before args s = true) (hl : Cond.methodLink own idx yX1_look ∈ lw_all) (hrc : rm.cells = mc) (hrs : rm.slots = ms) (hR : rm.frames + 1 ≤ R.frames ∧ 8 + (7 + 11) + rm.locals ≤ R.locals) : CallW R s args own RX1 idx yX1_look cX1_look 7 (some .int) (ws_ yX1_look cX1_look 7 (some .int)) rm mc ms 0 :=
  cwV 0 hts (lw_V hl q1817 q1818 q107 q1819) rfl hrc hrs (by decide +kernel) hR
set_option maxHeartbeats 4000000 in
set_option maxRecDepth 100000 in
theorem mtX1_look (l : Launch) (D : va_G) (k : Nat → ClassId) (ah : Nat → Nat) (aw : Nat → Nat) (adr : Nat → Nat) (aim : Nat → Nat) (ard : Nat → Nat) (asc : Nat → Nat) (ath : Nat → Nat) (awl : Nat → Nat) (alo : Nat → Nat) (atr : Nat → Nat) (Z : zZ) (hOK : zOK D zCl (zTys k) Z) (hlt : l.stackTraces = false) (hTh : zTh Z) (sh : Kp) (srd : Rd) (o : (String × Rd) ⊕ (Int32 × Rd)) (hrun : fX1_look sh srd = some o) :
    CtX l yX1_look cX1_look 7 (some .int) rX1_look Z D zCl ((cH k ah aw adr aim ard asc ath awl alo atr sh) ++ (cR k ard srd)) [.ref (ah 0)] (fun r' w' => ∃ (r : Int32) (ord : Rd), o = .inr (r, ord) ∧ r' = (some (.int r)) ∧ w' = ((cH k ah aw adr aim ard asc ath awl alo atr sh) ++ (cR k ard ord))) (fun E' w' => ∃ (ord : Rd), o = .inl (E', ord) ∧ w' = ((cH k ah aw adr aim ard asc ath awl alo atr sh) ++ (cR k ard ord))) 1 6 := by
  refine CtX.of (by decide) (Nat.le_of_ble_eq_true rfl) ?_
  intro p e s m args below meth c A hE hnoh hA hP hD hS hz ls hl
  obtain ⟨hx, hb, hr, hml, hown, hts, hlocks, hname⟩ := hE
  have hown : s.vm.findClass RX1 = some m.cls := hown
  have hK := hOK.1 _ _ _ hz
  have hN := hOK.2.1 _ _ _ hz
  have hl : lv_has ls 7 [(0, .ref (ah 0))] := hl
  unfold fX1_look at hrun
  refine lv_aload_n hx hb dX1_look_0 rfl (lv_at hl 0 rfl) ?_
  refine lv_bipush (v := (52 : Int32)) hx hb dX1_look_1 (by decide) ?_
  obtain ⟨o_2, hc_1, hrun⟩ := mox_s rfl hrun
  have hP := hP.sub (ws' := ([] ++ (((cH k ah aw adr aim ard asc ath awl alo atr sh) ++ (cR k ard srd)) ++ []))) [0, 1, 2] rfl
  have hD := hD.sub (ws' := ([] ++ (((cH k ah aw adr aim ard asc ath awl alo atr sh) ++ (cR k ard srd)) ++ []))) [0, 1, 2] (by decide) rfl
  refine cXV [] ((cH k ah aw adr aim ard asc ath awl alo atr sh) ++ (cR k ard srd)) [] (As := [.int (52 : Int32)]) (ci := 1) ⟨hx, hb, hml, hown, hts⟩ hOK hz hS hA hP hD (mtX1_tells l D k ah aw adr aim ard asc ath awl alo atr Z hOK hlt hTh _ _ _ o_2 hc_1) (kX1_tells hts q1782 rfl rfl ⟨Nat.le_of_ble_eq_true rfl, Nat.le_of_ble_eq_true rfl⟩) 0 rfl rfl rfl hl.1 rfl (lv_room (Nat.le_of_ble_eq_true rfl)) ⟨Nat.le_of_ble_eq_true rfl, Nat.le_of_ble_eq_true rfl⟩ dX1_look_3 (fun E_ w_ ce_ q9_ H locs hq hP hD hS hce hcv hcl => ?_) (fun r_ w_ H locs hq hP hD hS => ?_)
  · obtain ⟨srd_3x, rfl, rfl⟩ := hq
    have hrun := moxl hrun
    cases hrun
    have hP := hP.sub (ws' := ((cH k ah aw adr aim ard asc ath awl alo atr sh) ++ (cR k ard srd_3x))) [0, 1, 2] rfl
    have hD := hD.sub (ws' := ((cH k ah aw adr aim ard asc ath awl alo atr sh) ++ (cR k ard srd_3x))) [0, 1, 2] (by decide) rfl
    exact zout hnoh hlocks hce hcv hcl hP hD hS ⟨_, rfl, rfl⟩ (Nat.le_of_ble_eq_true rfl) (Nat.le_of_ble_eq_true rfl)
  obtain ⟨srd_3, rfl, rfl, rfl⟩ := hq
  have hrun := moxr hrun
  have hP := hP.sub (ws' := ((cH k ah aw adr aim ard asc ath awl alo atr sh) ++ (cR k ard srd_3))) [0, 1, 2] rfl
  have hD := hD.sub (ws' := ((cH k ah aw adr aim ard asc ath awl alo atr sh) ++ (cR k ard srd_3))) [0, 1, 2] (by decide) rfl
  refine lv_iconst (v := (0 : Int32)) hx hb dX1_look_6 (by decide) ?_
  refine lv_istore_n (lv' := [(1, .int (0 : Int32)), (0, .ref (ah 0))]) hx hb dX1_look_7 rfl hl (by decide) rfl (fun ls hl => ?_)
  refine lv_iconst (v := (0 : Int32)) hx hb dX1_look_8 (by decide) ?_
  refine lv_istore_n (lv' := [(2, .int (0 : Int32)), (1, .int (0 : Int32)), (0, .ref (ah 0))]) hx hb dX1_look_9 rfl hl (by decide) rfl (fun ls hl => ?_)
  obtain ⟨K_7, hK_7, hrun⟩ := mjn_s hrun
  have hj_5 : ∀ (x1_6 : Int32), ∀ (H : Heap) (locs : List Loc), va_P D zCl ((cH k ah aw adr aim ard asc ath awl alo atr sh) ++ (cR k ard srd_3)) H → va_D A ((cH k ah aw adr aim ard asc ath awl alo atr sh) ++ (cR k ard srd_3)) → va_S A s.heap H locs → ∀ ls : Array Slot, lv_has ls 7 [(0, .ref (ah 0)), (1, .int x1_6)] → K_7 x1_6 = some o → W p l e rX1_look s m args below meth c H locs 1 6 (vx_MQ below (QWr (fun r' w' => ∃ (r : Int32) (ord : Rd), o = .inr (r, ord) ∧ r' = (some (.int r)) ∧ w' = ((cH k ah aw adr aim ard asc ath awl alo atr sh) ++ (cR k ard ord))) D zCl A) (QXr (fun E' w' => ∃ (ord : Rd), o = .inl (E', ord) ∧ w' = ((cH k ah aw adr aim ard asc ath awl alo atr sh) ++ (cR k ard ord))) D zCl A) args s 1 6 A) (F0 m 38 ls []) := by
    intro x1_6 H locs hP hD hS ls hl hrun
    rw [hK_7] at hrun
    refine lv_iload_n hx hb dX1_look_38 rfl (lv_at hl 1 rfl) ?_
    refine lv_iconst (v := (2 : Int32)) hx hb dX1_look_39 (by decide) ?_
    refine lv_icmp_ge (tgt := 45) hx hb dX1_look_40 (by decide) (fun c_8 => ?_) (fun c_8 => ?_)
    · have hrun := mif_p c_8 hrun
      refine lv_iconst (v := (-1 : Int32)) hx hb dX1_look_45 (by decide) ?_
      refine lv_istore_n (lv' := [(2, .int (-1 : Int32)), (0, .ref (ah 0)), (1, .int x1_6)]) hx hb dX1_look_46 rfl hl (by decide) rfl (fun ls hl => ?_)
      refine lv_sipush (v := (999 : Int32)) hx hb dX1_look_47 (by decide) ?_
      refine lv_istore_n (lv' := [(3, .int (999 : Int32)), (2, .int (-1 : Int32)), (0, .ref (ah 0)), (1, .int x1_6)]) hx hb dX1_look_50 rfl hl (by decide) rfl (fun ls hl => ?_)
      refine lv_iconst (v := (0 : Int32)) hx hb dX1_look_51 (by decide) ?_
      refine lv_istore (lv' := [(4, .int (0 : Int32)), (3, .int (999 : Int32)), (2, .int (-1 : Int32)), (0, .ref (ah 0)), (1, .int x1_6)]) hx hb dX1_look_52 hl (by decide) rfl (fun ls hl => ?_)
      refine lv_iconst (v := (0 : Int32)) hx hb dX1_look_54 (by decide) ?_
      refine lv_istore (lv' := [(5, .int (0 : Int32)), (4, .int (0 : Int32)), (3, .int (999 : Int32)), (2, .int (-1 : Int32)), (0, .ref (ah 0)), (1, .int x1_6)]) hx hb dX1_look_55 hl (by decide) rfl (fun ls hl => ?_)
      have hL_9 : ∀ n : Nat, ∀ (x2_10 : Int32) (x3_11 : Int32) (x4_12 : Int32) (x5_13 : Int32), ∀ (H : Heap) (locs : List Loc), va_P D zCl ((cH k ah aw adr aim ard asc ath awl alo atr sh) ++ (cR k ard srd_3)) H → va_D A ((cH k ah aw adr aim ard asc ath awl alo atr sh) ++ (cR k ard srd_3)) → va_S A s.heap H locs → ∀ ls : Array Slot, lv_has ls 7 [(0, .ref (ah 0)), (1, .int x1_6), (2, .int x2_10), (3, .int x3_11), (4, .int x4_12), (5, .int x5_13)] → fX1_look_L57 srd_3 sh x1_6 n x2_10 x3_11 x4_12 x5_13 = some o → W p l e rX1_look s m args below meth c H locs 1 6 (vx_MQ below (QWr (fun r' w' => ∃ (r : Int32) (ord : Rd), o = .inr (r, ord) ∧ r' = (some (.int r)) ∧ w' = ((cH k ah aw adr aim ard asc ath awl alo atr sh) ++ (cR k ard ord))) D zCl A) (QXr (fun E' w' => ∃ (ord : Rd), o = .inl (E', ord) ∧ w' = ((cH k ah aw adr aim ard asc ath awl alo atr sh) ++ (cR k ard ord))) D zCl A) args s 1 6 A) (F0 m 57 ls []) := by
        intro n
        induction n with
        | zero =>
          intro x2_10 x3_11 x4_12 x5_13 H locs hP hD hS ls hl hrun
          exact nomatch hrun
        | succ n ih =>
          intro x2_10 x3_11 x4_12 x5_13 H locs hP hD hS ls hl hrun
          rw [fX1_look_L57.eq_2] at hrun
          refine lv_iload hx hb dX1_look_57 (lv_at hl 5 rfl) ?_
          refine lv_bipush (v := (52 : Int32)) hx hb dX1_look_59 (by decide) ?_
          refine lv_icmp_ge (tgt := 115) hx hb dX1_look_61 (by decide) (fun c_14 => ?_) (fun c_14 => ?_)
          · have hrun := mif_p c_14 hrun
            refine lv_iload_n hx hb dX1_look_115 rfl (lv_at hl 2 rfl) ?_
            cases hrun
            refine W.widen (k := 1) (n := 6) (Nat.le_of_ble_eq_true rfl) (Nat.le_of_ble_eq_true rfl) ?_
            exact vx_ret (retW_i hx hb hr hlocks hP hD hS ⟨_, _, rfl, rfl, rfl⟩ dX1_look_116)
          have hrun := mif_n c_14 hrun
          refine lv_iload hx hb dX1_look_64 (lv_at hl 4 rfl) ?_
          refine lv_aload_n hx hb dX1_look_66 rfl (lv_at hl 0 rfl) ?_
          refine lv_iload hx hb dX1_look_67 (lv_at hl 5 rfl) ?_
          obtain ⟨r_16, hc_15, hrun⟩ := mob_s rfl hrun
          refine cRV (As := [.int x5_13]) (ci := 1) ⟨hx, hb, hml, hown, hts⟩ hOK hz hS hP (mtX1_isWeek l D k ah aw adr aim ard asc ath awl alo atr Z hOK _ _ _ _ hc_15) (kX1_isWeek hts q1809 rfl rfl ⟨Nat.le_of_ble_eq_true rfl, Nat.le_of_ble_eq_true rfl⟩) 0 rfl rfl rfl hl.1 rfl (lv_room (Nat.le_of_ble_eq_true rfl)) ⟨Nat.le_of_ble_eq_true rfl, Nat.le_of_ble_eq_true rfl⟩ dX1_look_69 ?_
          obtain ⟨K_20, hK_20, hrun⟩ := mjn_s hrun
          have hj_18 : ∀ (y_19 : Bool), ∀ (H : Heap) (locs : List Loc), va_P D zCl ((cH k ah aw adr aim ard asc ath awl alo atr sh) ++ (cR k ard srd_3)) H → va_D A ((cH k ah aw adr aim ard asc ath awl alo atr sh) ++ (cR k ard srd_3)) → va_S A s.heap H locs → ∀ ls : Array Slot, lv_has ls 7 [(0, .ref (ah 0)), (1, .int x1_6), (2, .int x2_10), (3, .int x3_11), (5, .int x5_13)] → K_20 y_19 = some o → W p l e rX1_look s m args below meth c H locs 1 6 (vx_MQ below (QWr (fun r' w' => ∃ (r : Int32) (ord : Rd), o = .inr (r, ord) ∧ r' = (some (.int r)) ∧ w' = ((cH k ah aw adr aim ard asc ath awl alo atr sh) ++ (cR k ard ord))) D zCl A) (QXr (fun E' w' => ∃ (ord : Rd), o = .inl (E', ord) ∧ w' = ((cH k ah aw adr aim ard asc ath awl alo atr sh) ++ (cR k ard ord))) D zCl A) args s 1 6 A) (F0 m 80 ls [.int (bz y_19), .int x4_12]) := by
            intro y_19 H locs hP hD hS ls hl hrun
            rw [hK_20] at hrun
            refine lv_iadd hx hb dX1_look_80 ?_
            refine lv_istore (lv' := [(4, .int (x4_12 + (bz y_19))), (0, .ref (ah 0)), (1, .int x1_6), (2, .int x2_10), (3, .int x3_11), (5, .int x5_13)]) hx hb dX1_look_81 hl (by decide) rfl (fun ls hl => ?_)
            refine lv_iload hx hb dX1_look_83 (lv_at hl 0 rfl) ?_
            refine lv_iload_n hx hb dX1_look_85 rfl (lv_at hl 2 rfl) ?_
            refine lv_iload hx hb dX1_look_86 (lv_at hl 0 rfl) ?_
            refine lv_isub hx hb dX1_look_88 ?_
            refine va_mmax hx hb (hml.trans hl.1.symm) hown (hts _ q1801) (hts _ q553) (hts _ q122) (hts _ q554) (Nat.le_of_ble_eq_true rfl) (Nat.le_of_ble_eq_true rfl) (Nat.le_of_ble_eq_true rfl) (Nat.le_of_ble_eq_true rfl) dX1_look_89 ?_
            refine lv_istore (lv' := [(6, .int (zmx (x4_12 + (bz y_19)) (x1_6 - (x4_12 + (bz y_19))))), (4, .int (x4_12 + (bz y_19))), (0, .ref (ah 0)), (1, .int x1_6), (2, .int x2_10), (3, .int x3_11), (5, .int x5_13)]) hx hb dX1_look_92 hl (by decide) rfl (fun ls hl => ?_)
            refine lv_iload hx hb dX1_look_94 (lv_at hl 0 rfl) ?_
            refine lv_iload_n hx hb dX1_look_96 rfl (lv_at hl 5 rfl) ?_
            refine lv_icmp_lt (tgt := 103) hx hb dX1_look_97 (by decide) (fun c_21 => ?_) (fun c_21 => ?_)
            · have hrun := mif_p c_21 hrun
              refine lv_iload hx hb dX1_look_103 (lv_at hl 6 rfl) ?_
              refine lv_istore_n (lv' := [(2, .int x5_13), (6, .int (zmx (x4_12 + (bz y_19)) (x1_6 - (x4_12 + (bz y_19))))), (4, .int (x4_12 + (bz y_19))), (0, .ref (ah 0)), (1, .int x1_6), (3, .int x3_11), (5, .int x5_13)]) hx hb dX1_look_105 rfl hl (by decide) rfl (fun ls hl => ?_)
              refine lv_iload hx hb dX1_look_106 (lv_at hl 1 rfl) ?_
              refine lv_istore_n (lv' := [(3, .int (zmx (x4_12 + (bz y_19)) (x1_6 - (x4_12 + (bz y_19))))), (2, .int x5_13), (6, .int (zmx (x4_12 + (bz y_19)) (x1_6 - (x4_12 + (bz y_19))))), (4, .int (x4_12 + (bz y_19))), (0, .ref (ah 0)), (1, .int x1_6), (5, .int x5_13)]) hx hb dX1_look_108 rfl hl (by decide) rfl (fun ls hl => ?_)
              refine lv_iinc (v := (x5_13 + (1 : Int32))) (lv' := [(5, .int (x5_13 + (1 : Int32))), (3, .int (zmx (x4_12 + (bz y_19)) (x1_6 - (x4_12 + (bz y_19))))), (2, .int x5_13), (6, .int (zmx (x4_12 + (bz y_19)) (x1_6 - (x4_12 + (bz y_19))))), (4, .int (x4_12 + (bz y_19))), (0, .ref (ah 0)), (1, .int x1_6)]) hx hb dX1_look_109 hl (k := 6) rfl rfl (by decide) rfl (fun ls hl => ?_)
              refine lv_goto (tgt := 57) hx hb dX1_look_112 (by decide) ?_
              exact ih x5_13 (zmx (x4_12 + (bz y_19)) (x1_6 - (x4_12 + (bz y_19)))) (x4_12 + (bz y_19)) (x5_13 + (1 : Int32)) _ _ hP hD hS ls (lv_sub hl [5, 6, 2, 1, 4, 0] rfl) hrun
            have hrun := mif_n c_21 hrun
            refine lv_goto (tgt := 109) hx hb dX1_look_100 (by decide) ?_
            refine lv_iinc (v := (x5_13 + (1 : Int32))) (lv' := [(5, .int (x5_13 + (1 : Int32))), (6, .int (zmx (x4_12 + (bz y_19)) (x1_6 - (x4_12 + (bz y_19))))), (4, .int (x4_12 + (bz y_19))), (0, .ref (ah 0)), (1, .int x1_6), (2, .int x2_10), (3, .int x3_11)]) hx hb dX1_look_109 hl (k := 6) rfl rfl (by decide) rfl (fun ls hl => ?_)
            refine lv_goto (tgt := 57) hx hb dX1_look_112 (by decide) ?_
            exact ih x2_10 x3_11 (x4_12 + (bz y_19)) (x5_13 + (1 : Int32)) _ _ hP hD hS ls (lv_sub hl [3, 4, 5, 6, 2, 0] rfl) hrun
          refine lv_if_eq (tgt := 79) hx hb dX1_look_72 (by decide) (fun c_17 => ?_) (fun c_17 => ?_)
          · have hrun := mif_n (bz_z c_17) hrun
            refine lv_iconst (v := (0 : Int32)) hx hb dX1_look_79 (by decide) ?_
            exact hj_18 false _ _ hP hD hS ls (lv_sub hl [0, 1, 2, 3, 5] rfl) hrun
          have hrun := mif_p (bz_nz c_17) hrun
          refine lv_iconst (v := (1 : Int32)) hx hb dX1_look_75 (by decide) ?_
          refine lv_goto (tgt := 80) hx hb dX1_look_76 (by decide) ?_
          exact hj_18 true _ _ hP hD hS ls (lv_sub hl [0, 1, 2, 3, 5] rfl) hrun
      exact hL_9 mFU (-1 : Int32) (999 : Int32) (0 : Int32) (0 : Int32) _ _ hP hD hS ls (lv_sub hl [4, 5, 3, 2, 1, 0] rfl) hrun
    have hrun := mif_n c_8 hrun
    refine lv_iconst (v := (-1 : Int32)) hx hb dX1_look_43 (by decide) ?_
    cases hrun
    refine W.widen (k := 1) (n := 6) (Nat.le_of_ble_eq_true rfl) (Nat.le_of_ble_eq_true rfl) ?_
    exact vx_ret (retW_i hx hb hr hlocks hP hD hS ⟨_, _, rfl, rfl, rfl⟩ dX1_look_44)
  have hL_23 : ∀ n : Nat, ∀ (x1_24 : Int32) (x2_25 : Int32), ∀ (H : Heap) (locs : List Loc), va_P D zCl ((cH k ah aw adr aim ard asc ath awl alo atr sh) ++ (cR k ard srd_3)) H → va_D A ((cH k ah aw adr aim ard asc ath awl alo atr sh) ++ (cR k ard srd_3)) → va_S A s.heap H locs → ∀ ls : Array Slot, lv_has ls 7 [(0, .ref (ah 0)), (1, .int x1_24), (2, .int x2_25)] → fX1_look_L10 K_7 sh srd_3 n x1_24 x2_25 = some o → W p l e rX1_look s m args below meth c H locs 1 6 (vx_MQ below (QWr (fun r' w' => ∃ (r : Int32) (ord : Rd), o = .inr (r, ord) ∧ r' = (some (.int r)) ∧ w' = ((cH k ah aw adr aim ard asc ath awl alo atr sh) ++ (cR k ard ord))) D zCl A) (QXr (fun E' w' => ∃ (ord : Rd), o = .inl (E', ord) ∧ w' = ((cH k ah aw adr aim ard asc ath awl alo atr sh) ++ (cR k ard ord))) D zCl A) args s 1 6 A) (F0 m 10 ls []) := by
    intro n
    induction n with
    | zero =>
      intro x1_24 x2_25 H locs hP hD hS ls hl hrun
      exact nomatch hrun
    | succ n ih =>
      intro x1_24 x2_25 H locs hP hD hS ls hl hrun
      rw [fX1_look_L10.eq_2] at hrun
      refine lv_iload_n hx hb dX1_look_10 rfl (lv_at hl 2 rfl) ?_
      refine lv_bipush (v := (52 : Int32)) hx hb dX1_look_11 (by decide) ?_
      refine lv_icmp_ge (tgt := 38) hx hb dX1_look_13 (by decide) (fun c_26 => ?_) (fun c_26 => ?_)
      · have hrun := mif_p c_26 hrun
        exact hj_5 x1_24 _ _ hP hD hS ls (lv_sub hl [0, 1] rfl) hrun
      have hrun := mif_n c_26 hrun
      refine lv_iload_n hx hb dX1_look_16 rfl (lv_at hl 1 rfl) ?_
      refine lv_aload_n hx hb dX1_look_17 rfl (lv_at hl 0 rfl) ?_
      refine lv_iload_n hx hb dX1_look_18 rfl (lv_at hl 2 rfl) ?_
      obtain ⟨r_28, hc_27, hrun⟩ := mob_s rfl hrun
      refine cRV (As := [.int x2_25]) (ci := 1) ⟨hx, hb, hml, hown, hts⟩ hOK hz hS hP (mtX1_isWeek l D k ah aw adr aim ard asc ath awl alo atr Z hOK _ _ _ _ hc_27) (kX1_isWeek hts q1809 rfl rfl ⟨Nat.le_of_ble_eq_true rfl, Nat.le_of_ble_eq_true rfl⟩) 0 rfl rfl rfl hl.1 rfl (lv_room (Nat.le_of_ble_eq_true rfl)) ⟨Nat.le_of_ble_eq_true rfl, Nat.le_of_ble_eq_true rfl⟩ dX1_look_19 ?_
      refine lv_if_eq (tgt := 29) hx hb dX1_look_22 (by decide) (fun c_29 => ?_) (fun c_29 => ?_)
      · have hrun := mif_n (bz_z c_29) hrun
        refine lv_iconst (v := (0 : Int32)) hx hb dX1_look_29 (by decide) ?_
        refine lv_iadd hx hb dX1_look_30 ?_
        refine lv_istore_n (lv' := [(1, .int (x1_24 + (0 : Int32))), (0, .ref (ah 0)), (2, .int x2_25)]) hx hb dX1_look_31 rfl hl (by decide) rfl (fun ls hl => ?_)
        refine lv_iinc (v := (x2_25 + (1 : Int32))) (lv' := [(2, .int (x2_25 + (1 : Int32))), (1, .int (x1_24 + (0 : Int32))), (0, .ref (ah 0))]) hx hb dX1_look_32 hl (k := 2) rfl rfl (by decide) rfl (fun ls hl => ?_)
        refine lv_goto (tgt := 10) hx hb dX1_look_35 (by decide) ?_
        exact ih (x1_24 + (0 : Int32)) (x2_25 + (1 : Int32)) _ _ hP hD hS ls (lv_sub hl [2, 1, 0] rfl) hrun
      have hrun := mif_p (bz_nz c_29) hrun
      refine lv_iconst (v := (1 : Int32)) hx hb dX1_look_25 (by decide) ?_
      refine lv_goto (tgt := 30) hx hb dX1_look_26 (by decide) ?_
      refine lv_iadd hx hb dX1_look_30 ?_
      refine lv_istore_n (lv' := [(1, .int (x1_24 + (1 : Int32))), (0, .ref (ah 0)), (2, .int x2_25)]) hx hb dX1_look_31 rfl hl (by decide) rfl (fun ls hl => ?_)
      refine lv_iinc (v := (x2_25 + (1 : Int32))) (lv' := [(2, .int (x2_25 + (1 : Int32))), (1, .int (x1_24 + (1 : Int32))), (0, .ref (ah 0))]) hx hb dX1_look_32 hl (k := 2) rfl rfl (by decide) rfl (fun ls hl => ?_)
      refine lv_goto (tgt := 10) hx hb dX1_look_35 (by decide) ?_
      exact ih (x1_24 + (1 : Int32)) (x2_25 + (1 : Int32)) _ _ hP hD hS ls (lv_sub hl [2, 1, 0] rfl) hrun
  exact hL_23 mFU (0 : Int32) (0 : Int32) _ _ hP hD hS ls (lv_sub hl [2, 1, 0] rfl) hrun
def rX3_add : Room := { frames := 0, cells := 0, slots := 0, locals := 0 }
noncomputable def fX3_add_L39 (K_12 : Rd → Option (Int32 × Rd)) (sfv : (Nat → Int32)) (x4_6 : Int32) : Nat → Int32 → Rd → Option (Int32 × Rd)
  | 0, _, _ => none
  | n + 1, x6_14, srd_15 =>
    if x6_14 < (0 : Int32) then
      K_12 srd_15
    else
      mck (rd_length srd_15) 400 <|
      mlt (rd_s_tape srd_15 (upd (rd_tape srd_15) (Int32.toNatClampNeg (rd_length srd_15)) (vp_nar .byte (((((fv_five sfv) (Int32.toNatClampNeg x4_6)) >>> (x6_14 &&& (31 : Int32)))).toInt8.toInt32)))) fun srd_18 =>
      mlt ((rd_length srd_18) + (1 : Int32)) fun v_19 =>
      mlt (rd_s_length srd_18 v_19) fun srd_20 =>
      fX3_add_L39 K_12 sfv x4_6 n (x6_14 + (-8 : Int32)) srd_20
noncomputable def fX3_add_L23 (K_4 : Rd → Option (Int32 × Rd)) (sfv : (Nat → Int32)) : Nat → Int32 → Rd → Option (Int32 × Rd)
  | 0, _, _ => none
  | n + 1, x4_6, srd_7 =>
    if (5 : Int32) ≤ x4_6 then
      K_4 srd_7
    else
      mck x4_6 5 <|
      mjn (fun (srd_11 : Rd) =>
      fX3_add_L23 K_4 sfv n (x4_6 + (1 : Int32)) srd_11) fun K_12 =>
      fX3_add_L39 K_12 sfv x4_6 mFU (24 : Int32) srd_7
noncomputable def fX3_add (srd : Rd) (sfv : (Nat → Int32)) : Option (Int32 × Rd) :=
  if ((rd_length srd) + (20 : Int32)) ≤ (400 : Int32) then
    mjn (fun (srd_3 : Rd) =>
    some ((rd_length srd_3), srd_3)) fun K_4 =>
    fX3_add_L23 K_4 sfv mFU (0 : Int32) srd
  else
    some ((-1 : Int32), srd)
theorem kX3_add {R : Room} {s : State} {args : Array Value} {own : String} {idx mc ms : Nat} {rm : Room} (hts : ∀ w ∈ lw_all, w.before args s = true) (hl : Cond.methodLink own idx yX3_add ∈ lw_all) (hrc : rm.cells = mc) (hrs : rm.slots = ms) (hR : rm.frames + 1 ≤ R.frames ∧ 8 + (7 + 11) + rm.locals ≤ R.locals) : CallW R s args own RX3 idx yX3_add cX3_add 7 (some .int) (ws_ yX3_add cX3_add 7 (some .int)) rm mc ms 1 :=
  cwV 1 hts (lw_V hl q407 q408 q109 q409) rfl hrc hrs (by decide +kernel) hR
set_option maxHeartbeats 4000000 in
set_option maxRecDepth 100000 in
theorem mtX3_add (l : Launch) (D : va_G) (k : Nat → ClassId) (ard : Nat → Nat) (afv : Nat → Nat) (Z : zZ) (hOK : zOK D zCl (zTys k) Z) (srd : Rd) (sfv : (Nat → Int32)) (r : Int32) (ord : Rd) (hrun : fX3_add srd sfv = some (r, ord)) :
    CtW l yX3_add cX3_add 7 (some .int) rX3_add Z D zCl ((cR k ard srd) ++ (cF k afv sfv)) [.ref (ard 0), .ref (afv 1)] (fun r' w' => r' = (some (.int r)) ∧ w' = ((cR k ard ord) ++ (cF k afv sfv))) 0 0 := by
  refine CtW.of (by decide) (Nat.le_of_ble_eq_true rfl) ?_
  intro p e s m args below meth c A hE hA hP hD hS hz ls hl
  obtain ⟨hx, hb, hr, hml, hown, hts, hlocks, hname⟩ := hE
  have hown : s.vm.findClass RX3 = some m.cls := hown
  have hK := hOK.1 _ _ _ hz
  have hN := hOK.2.1 _ _ _ hz
  have hl : lv_has ls 7 [(0, .ref (ard 0)), (1, .ref (afv 1))] := hl
  unfold fX3_add at hrun
  refine lv_aload_n hx hb dX3_add_0 rfl (lv_at hl 0 rfl) ?_
  refine va_get (ci := 3) (v := .int (rd_length srd)) (C := RX3) (T := TX3) (N := 7) hx hb hts in_X3 hown hK hP 0 rfl rfl 1 (by decide) (hts _ q262) (fun _ h9 => h9) rfl dX3_add_1 ?_
  refine lv_bipush (v := (20 : Int32)) hx hb dX3_add_4 (by decide) ?_
  refine lv_iadd hx hb dX3_add_6 ?_
  refine lv_sipush (v := (400 : Int32)) hx hb dX3_add_7 (by decide) ?_
  refine lv_icmp_le (tgt := 15) hx hb dX3_add_10 (by decide) (fun c_1 => ?_) (fun c_1 => ?_)
  · have hrun := mif_p c_1 hrun
    refine lv_aload_n hx hb dX3_add_15 rfl (lv_at hl 1 rfl) ?_
    refine lv_astore_n (lv' := [(2, .ref (afv 1)), (0, .ref (ard 0)), (1, .ref (afv 1))]) hx hb dX3_add_16 rfl hl (by decide) rfl (fun ls hl => ?_)
    refine lv_aload_n hx hb dX3_add_17 rfl (lv_at hl 0 rfl) ?_
    refine va_alen (v := (5 : Int32)) hx hb hK hP 2 0 rfl rfl rfl dX3_add_18 ?_
    refine lv_istore_n (lv' := [(3, .int (5 : Int32)), (2, .ref (afv 1)), (0, .ref (ard 0)), (1, .ref (afv 1))]) hx hb dX3_add_19 rfl hl (by decide) rfl (fun ls hl => ?_)
    refine lv_iconst (v := (0 : Int32)) hx hb dX3_add_20 (by decide) ?_
    refine lv_istore (lv' := [(4, .int (0 : Int32)), (3, .int (5 : Int32)), (2, .ref (afv 1)), (0, .ref (ard 0)), (1, .ref (afv 1))]) hx hb dX3_add_21 hl (by decide) rfl (fun ls hl => ?_)
    obtain ⟨K_4, hK_4, hrun⟩ := mjn_s hrun
    have hj_2 : ∀ (srd_3 : Rd), ∀ (H : Heap) (locs : List Loc), va_P D zCl ((cR k ard srd_3) ++ (cF k afv sfv)) H → va_D A ((cR k ard srd_3) ++ (cF k afv sfv)) → va_S A s.heap H locs → ∀ ls : Array Slot, lv_has ls 7 [(0, .ref (ard 0))] → K_4 srd_3 = some (r, ord) → W p l e rX3_add s m args below meth c H locs 0 0 (MQ below (QWr (fun r' w' => r' = (some (.int r)) ∧ w' = ((cR k ard ord) ++ (cF k afv sfv))) D zCl A) args s 0 0 A) (F0 m 81 ls []) := by
      intro srd_3 H locs hP hD hS ls hl hrun
      rw [hK_4] at hrun
      refine lv_aload_n hx hb dX3_add_81 rfl (lv_at hl 0 rfl) ?_
      refine va_get (ci := 3) (v := .int (rd_length srd_3)) (C := RX3) (T := TX3) (N := 7) hx hb hts in_X3 hown hK hP 0 rfl rfl 1 (by decide) (hts _ q262) (fun _ h9 => h9) rfl dX3_add_82 ?_
      cases hrun
      exact retW_i hx hb hr hlocks hP hD hS ⟨rfl, rfl⟩ dX3_add_85
    have hL_5 : ∀ n : Nat, ∀ (x4_6 : Int32) (srd_7 : Rd), ∀ (H : Heap) (locs : List Loc), va_P D zCl ((cR k ard srd_7) ++ (cF k afv sfv)) H → va_D A ((cR k ard srd_7) ++ (cF k afv sfv)) → va_S A s.heap H locs → ∀ ls : Array Slot, lv_has ls 7 [(0, .ref (ard 0)), (2, .ref (afv 1)), (3, .int (5 : Int32)), (4, .int x4_6)] → fX3_add_L23 K_4 sfv n x4_6 srd_7 = some (r, ord) → W p l e rX3_add s m args below meth c H locs 0 0 (MQ below (QWr (fun r' w' => r' = (some (.int r)) ∧ w' = ((cR k ard ord) ++ (cF k afv sfv))) D zCl A) args s 0 0 A) (F0 m 23 ls []) := by
      intro n
      induction n with
      | zero =>
        intro x4_6 srd_7 H locs hP hD hS ls hl hrun
        exact nomatch hrun
      | succ n ih =>
        intro x4_6 srd_7 H locs hP hD hS ls hl hrun
        rw [fX3_add_L23.eq_2] at hrun
        refine lv_iload hx hb dX3_add_23 (lv_at hl 3 rfl) ?_
        refine lv_iload_n hx hb dX3_add_25 rfl (lv_at hl 2 rfl) ?_
        refine lv_icmp_ge (tgt := 81) hx hb dX3_add_26 (by decide) (fun c_8 => ?_) (fun c_8 => ?_)
        · have hrun := mif_p c_8 hrun
          exact hj_2 srd_7 _ _ hP hD hS ls (lv_sub hl [0] rfl) hrun
        have hrun := mif_n c_8 hrun
        refine lv_aload_n hx hb dX3_add_29 rfl (lv_at hl 1 rfl) ?_
        refine lv_iload hx hb dX3_add_30 (lv_at hl 3 rfl) ?_
        obtain ⟨hb_9, hrun⟩ := mck_s rfl hrun
        refine va_iald hx hb hK hP 2 0 rfl rfl hb_9 dX3_add_32 ?_
        refine lv_istore (lv' := [(5, .int ((fv_five sfv) (Int32.toNatClampNeg x4_6))), (0, .ref (ard 0)), (2, .ref (afv 1)), (3, .int (5 : Int32)), (4, .int x4_6)]) hx hb dX3_add_33 hl (by decide) rfl (fun ls hl => ?_)
        refine lv_bipush (v := (24 : Int32)) hx hb dX3_add_35 (by decide) ?_
        refine lv_istore (lv' := [(6, .int (24 : Int32)), (5, .int ((fv_five sfv) (Int32.toNatClampNeg x4_6))), (0, .ref (ard 0)), (2, .ref (afv 1)), (3, .int (5 : Int32)), (4, .int x4_6)]) hx hb dX3_add_37 hl (by decide) rfl (fun ls hl => ?_)
        obtain ⟨K_12, hK_12, hrun⟩ := mjn_s hrun
        have hj_10 : ∀ (srd_11 : Rd), ∀ (H : Heap) (locs : List Loc), va_P D zCl ((cR k ard srd_11) ++ (cF k afv sfv)) H → va_D A ((cR k ard srd_11) ++ (cF k afv sfv)) → va_S A s.heap H locs → ∀ ls : Array Slot, lv_has ls 7 [(0, .ref (ard 0)), (2, .ref (afv 1)), (3, .int (5 : Int32)), (4, .int x4_6)] → K_12 srd_11 = some (r, ord) → W p l e rX3_add s m args below meth c H locs 0 0 (MQ below (QWr (fun r' w' => r' = (some (.int r)) ∧ w' = ((cR k ard ord) ++ (cF k afv sfv))) D zCl A) args s 0 0 A) (F0 m 75 ls []) := by
          intro srd_11 H locs hP hD hS ls hl hrun
          rw [hK_12] at hrun
          refine lv_iinc (v := (x4_6 + (1 : Int32))) (lv' := [(4, .int (x4_6 + (1 : Int32))), (0, .ref (ard 0)), (2, .ref (afv 1)), (3, .int (5 : Int32))]) hx hb dX3_add_75 hl (k := 3) rfl rfl (by decide) rfl (fun ls hl => ?_)
          refine lv_goto (tgt := 23) hx hb dX3_add_78 (by decide) ?_
          exact ih (x4_6 + (1 : Int32)) srd_11 _ _ hP hD hS ls (lv_sub hl [1, 2, 3, 0] rfl) hrun
        have hL_13 : ∀ n : Nat, ∀ (x6_14 : Int32) (srd_15 : Rd), ∀ (H : Heap) (locs : List Loc), va_P D zCl ((cR k ard srd_15) ++ (cF k afv sfv)) H → va_D A ((cR k ard srd_15) ++ (cF k afv sfv)) → va_S A s.heap H locs → ∀ ls : Array Slot, lv_has ls 7 [(0, .ref (ard 0)), (2, .ref (afv 1)), (3, .int (5 : Int32)), (4, .int x4_6), (5, .int ((fv_five sfv) (Int32.toNatClampNeg x4_6))), (6, .int x6_14)] → fX3_add_L39 K_12 sfv x4_6 n x6_14 srd_15 = some (r, ord) → W p l e rX3_add s m args below meth c H locs 0 0 (MQ below (QWr (fun r' w' => r' = (some (.int r)) ∧ w' = ((cR k ard ord) ++ (cF k afv sfv))) D zCl A) args s 0 0 A) (F0 m 39 ls []) := by
          intro n
          induction n with
          | zero =>
            intro x6_14 srd_15 H locs hP hD hS ls hl hrun
            exact nomatch hrun
          | succ n ih =>
            intro x6_14 srd_15 H locs hP hD hS ls hl hrun
            rw [fX3_add_L39.eq_2] at hrun
            refine lv_iload hx hb dX3_add_39 (lv_at hl 5 rfl) ?_
            refine lv_if_lt (tgt := 75) hx hb dX3_add_41 (by decide) (fun c_16 => ?_) (fun c_16 => ?_)
            · have hrun := mif_p c_16 hrun
              exact hj_10 srd_15 _ _ hP hD hS ls (lv_sub hl [0, 1, 2, 3] rfl) hrun
            have hrun := mif_n c_16 hrun
            refine lv_aload_n hx hb dX3_add_44 rfl (lv_at hl 0 rfl) ?_
            refine va_get (ci := 3) (v := .ref (ard 1)) (C := RX3) (T := TX3) (N := 7) hx hb hts in_X3 hown hK hP 0 rfl rfl 0 (by decide) (hts _ q260) (fun _ h9 => h9) rfl dX3_add_45 ?_
            refine lv_aload_n hx hb dX3_add_48 rfl (lv_at hl 0 rfl) ?_
            refine va_get (ci := 3) (v := .int (rd_length srd_15)) (C := RX3) (T := TX3) (N := 7) hx hb hts in_X3 hown hK hP 0 rfl rfl 1 (by decide) (hts _ q262) (fun _ h9 => h9) rfl dX3_add_49 ?_
            refine lv_iload hx hb dX3_add_52 (lv_at hl 4 rfl) ?_
            refine lv_iload hx hb dX3_add_54 (lv_at hl 5 rfl) ?_
            refine lv_ishr hx hb dX3_add_56 ?_
            refine lv_i2b (v := ((((fv_five sfv) (Int32.toNatClampNeg x4_6)) >>> (x6_14 &&& (31 : Int32)))).toInt8.toInt32) hx hb dX3_add_57 rfl ?_
            obtain ⟨hb_17, hrun⟩ := mck_s rfl hrun
            refine va_bast hx hb hK hP hD hS 1 2 rfl rfl hb_17 dX3_add_58 (fun H locs hP hD hS => ?_)
            have hP : va_P D zCl ((cR k ard (rd_s_tape srd_15 (upd (rd_tape srd_15) (Int32.toNatClampNeg (rd_length srd_15)) (vp_nar .byte (((((fv_five sfv) (Int32.toNatClampNeg x4_6)) >>> (x6_14 &&& (31 : Int32)))).toInt8.toInt32))))) ++ (cF k afv sfv)) _ := hP
            have hD : va_D A ((cR k ard (rd_s_tape srd_15 (upd (rd_tape srd_15) (Int32.toNatClampNeg (rd_length srd_15)) (vp_nar .byte (((((fv_five sfv) (Int32.toNatClampNeg x4_6)) >>> (x6_14 &&& (31 : Int32)))).toInt8.toInt32))))) ++ (cF k afv sfv)) := hD
            obtain ⟨srd_18, esrd_18⟩ : ∃ z : Rd, z = (rd_s_tape srd_15 (upd (rd_tape srd_15) (Int32.toNatClampNeg (rd_length srd_15)) (vp_nar .byte (((((fv_five sfv) (Int32.toNatClampNeg x4_6)) >>> (x6_14 &&& (31 : Int32)))).toInt8.toInt32)))) := ⟨_, rfl⟩
            rw [← esrd_18] at hP hD
            have hrun := mlt_s hrun srd_18 esrd_18
            refine lv_aload_n hx hb dX3_add_59 rfl (lv_at hl 0 rfl) ?_
            refine lv_dup hx hb dX3_add_60 rfl ?_
            refine va_get (ci := 3) (v := .int (rd_length srd_18)) (C := RX3) (T := TX3) (N := 7) hx hb hts in_X3 hown hK hP 0 rfl rfl 1 (by decide) (hts _ q262) (fun _ h9 => h9) rfl dX3_add_61 ?_
            refine lv_iconst (v := (1 : Int32)) hx hb dX3_add_64 (by decide) ?_
            refine lv_iadd hx hb dX3_add_65 ?_
            refine lv_topi (fun v_19 ev_19 => ?_)
            have hrun := mlt_s hrun v_19 ev_19
            refine va_put (ci := 3) (v := .int v_19) (ty := tyX3 1) (C := RX3) (T := TX3) (N := 7) hx hb hts in_X3 tyX3 tyX3_ok nmX3 hown hK hP hD hS 0 rfl rfl 1 (by decide) (hts _ q262) (fun _ h9 => h9) rfl (tyX3_ok 1 (by decide)) rfl rfl (Nat.le_of_ble_eq_true rfl) dX3_add_66 (fun H locs hP hD hS => ?_)
            have hP : va_P D zCl ((cR k ard (rd_s_length srd_18 v_19)) ++ (cF k afv sfv)) _ := hP
            have hD : va_D A ((cR k ard (rd_s_length srd_18 v_19)) ++ (cF k afv sfv)) := hD
            obtain ⟨srd_20, esrd_20⟩ : ∃ z : Rd, z = (rd_s_length srd_18 v_19) := ⟨_, rfl⟩
            rw [← esrd_20] at hP hD
            have hrun := mlt_s hrun srd_20 esrd_20
            refine lv_iinc (v := (x6_14 + (-8 : Int32))) (lv' := [(6, .int (x6_14 + (-8 : Int32))), (0, .ref (ard 0)), (2, .ref (afv 1)), (3, .int (5 : Int32)), (4, .int x4_6), (5, .int ((fv_five sfv) (Int32.toNatClampNeg x4_6)))]) hx hb dX3_add_69 hl (k := 5) rfl rfl (by decide) rfl (fun ls hl => ?_)
            refine lv_goto (tgt := 39) hx hb dX3_add_72 (by decide) ?_
            exact ih (x6_14 + (-8 : Int32)) srd_20 _ _ hP hD hS ls (lv_sub hl [1, 2, 3, 4, 5, 0] rfl) hrun
        exact hL_13 mFU (24 : Int32) srd_7 _ _ hP hD hS ls (lv_sub hl [2, 3, 4, 5, 1, 0] rfl) hrun
    exact hL_5 mFU (0 : Int32) srd _ _ hP hD hS ls (lv_sub hl [3, 2, 1, 0] rfl) hrun
  have hrun := mif_n c_1 hrun
  refine lv_iconst (v := (-1 : Int32)) hx hb dX3_add_13 (by decide) ?_
  cases hrun
  exact retW_i hx hb hr hlocks hP hD hS ⟨rfl, rfl⟩ dX3_add_14
