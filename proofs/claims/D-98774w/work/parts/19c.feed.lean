/-! FEED -/
def z5 (p1 p2 p3 p4 p5 : Int32) : Nat → Int32 := (upd (upd (upd (upd (upd (fun _ => 0) 0 p1) 1 p2) 2 p3) 3 p4) 4 p5)
def rX1_feed : Room := { frames := 4, cells := 1, slots := 5, locals := 200 }
theorem kX1_feed {R : Room} {s : State} {args : Array Value} {own : String} {idx mc ms : Nat} {rm : Room} (hts : ∀ w ∈ lw_all, w.before args s = true) (hl : Cond.methodLink own idx yX1_feed ∈ lw_all) (hrc : rm.cells = mc) (hrs : rm.slots = ms) (hR : rm.frames + 1 ≤ R.frames ∧ 8 + (6 + 11) + rm.locals ≤ R.locals) : CallW R s args own RX1 idx yX1_feed cX1_feed 6 (some .int) (ws_ yX1_feed cX1_feed 6 (some .int)) rm mc ms 5 :=
  cwV 5 hts (lw_V hl q403 q404 q107 q405) rfl hrc hrs (by decide +kernel) hR
set_option maxRecDepth 100000 in
theorem mtX1_feed (l : Launch) (D : va_G) (k : Nat → ClassId) (ah aw adr aim ard asc ath awl alo atr : Nat → Nat) (Z : zZ) (hOK : zOK D zCl (zTys k) Z) (sh : Kp) (srd : Rd) (p1 p2 p3 p4 p5 : Int32) (r : Int32) (ord : Rd) (hrun : fX3_add srd (z5 p1 p2 p3 p4 p5) = some (r, ord)) : CtW l yX1_feed cX1_feed 6 (some .int) rX1_feed Z D zCl ((cH k ah aw adr aim ard asc ath awl alo atr sh) ++ (cR k ard srd)) [.ref (ah 0), .int p1, .int p2, .int p3, .int p4, .int p5] (fun r' w' => r' = some (.int r) ∧ w' = ((cH k ah aw adr aim ard asc ath awl alo atr sh) ++ (cR k ard ord))) 1 5 := by
  refine CtW.of (by decide) (Nat.le_of_ble_eq_true rfl) ?_
  intro p e9 s m args below meth c A hE hA hP hD hS hz ls hl
  obtain ⟨hx, hb, hr, hml, hown, hts, hlocks, hname⟩ := hE
  have hown : s.vm.findClass RX1 = some m.cls := hown
  have hK := hOK.1 _ _ _ hz
  have hN := hOK.2.1 _ _ _ hz
  have hl : lv_has ls 6 [(0, .ref (ah 0)), (1, .int p1), (2, .int p2), (3, .int p3), (4, .int p4), (5, .int p5)] := hl
  refine lv_aload_n hx hb dX1_feed_0 rfl (lv_at hl 0 rfl) ?_
  refine va_get (ci := 1) (v := .ref (ard 0)) (C := RX1) (T := TX1) (N := 10) hx hb hts in_X1 hown hK hP 0 rfl rfl 4 (by decide) (hts _ q375) (fun _ h9 => h9) rfl dX1_feed_1 ?_
  refine lv_iconst (v := (5 : Int32)) hx hb dX1_feed_4 (by decide) ?_
  refine va_newa (atype := .int) (ty := .int) (a0 := (5, .inl (fun _ => 0))) (N' := 5) hx hb (hts _ q252) rfl hK hP hD hS hA (fun _ => rfl) (by decide) (by decide) (by decide) (Nat.le_of_ble_eq_true rfl) (Nat.le_of_ble_eq_true rfl) dX1_feed_5 (fun q1 cA H hK2 hP hD hS => ?_)
  cases zcAg hK2 0 rfl
  have hP : va_P D zCl (((cH k ah aw adr aim ard asc ath awl alo atr sh) ++ (cR k ard srd)) ++ (cF k (fun _ => q1) (fun _ => 0))) _ := hP
  have hD : va_D A (((cH k ah aw adr aim ard asc ath awl alo atr sh) ++ (cR k ard srd)) ++ (cF k (fun _ => q1) (fun _ => 0))) := hD
  refine lv_dup hx hb dX1_feed_7 rfl ?_
  refine lv_iconst (v := (0 : Int32)) hx hb dX1_feed_8 (by decide) ?_
  refine lv_iload_n hx hb dX1_feed_9 rfl (lv_at hl 1 rfl) ?_
  refine va_iastk (k := 0) hx hb hK hP hD hS 3 0 rfl rfl rfl (show ¬ _ from by decide) dX1_feed_10 (fun H locs hP hD hS => ?_)
  have hP : va_P D zCl (((cH k ah aw adr aim ard asc ath awl alo atr sh) ++ (cR k ard srd)) ++ (cF k (fun _ => q1) (upd (fun _ => 0) 0 p1))) _ := hP
  have hD : va_D A (((cH k ah aw adr aim ard asc ath awl alo atr sh) ++ (cR k ard srd)) ++ (cF k (fun _ => q1) (upd (fun _ => 0) 0 p1))) := hD
  refine lv_dup hx hb dX1_feed_11 rfl ?_
  refine lv_iconst (v := (1 : Int32)) hx hb dX1_feed_12 (by decide) ?_
  refine lv_iload_n hx hb dX1_feed_13 rfl (lv_at hl 2 rfl) ?_
  refine va_iastk (k := 1) hx hb hK hP hD hS 3 0 rfl rfl rfl (show ¬ _ from by decide) dX1_feed_14 (fun H locs hP hD hS => ?_)
  have hP : va_P D zCl (((cH k ah aw adr aim ard asc ath awl alo atr sh) ++ (cR k ard srd)) ++ (cF k (fun _ => q1) (upd (upd (fun _ => 0) 0 p1) 1 p2))) _ := hP
  have hD : va_D A (((cH k ah aw adr aim ard asc ath awl alo atr sh) ++ (cR k ard srd)) ++ (cF k (fun _ => q1) (upd (upd (fun _ => 0) 0 p1) 1 p2))) := hD
  refine lv_dup hx hb dX1_feed_15 rfl ?_
  refine lv_iconst (v := (2 : Int32)) hx hb dX1_feed_16 (by decide) ?_
  refine lv_iload_n hx hb dX1_feed_17 rfl (lv_at hl 3 rfl) ?_
  refine va_iastk (k := 2) hx hb hK hP hD hS 3 0 rfl rfl rfl (show ¬ _ from by decide) dX1_feed_18 (fun H locs hP hD hS => ?_)
  have hP : va_P D zCl (((cH k ah aw adr aim ard asc ath awl alo atr sh) ++ (cR k ard srd)) ++ (cF k (fun _ => q1) (upd (upd (upd (fun _ => 0) 0 p1) 1 p2) 2 p3))) _ := hP
  have hD : va_D A (((cH k ah aw adr aim ard asc ath awl alo atr sh) ++ (cR k ard srd)) ++ (cF k (fun _ => q1) (upd (upd (upd (fun _ => 0) 0 p1) 1 p2) 2 p3))) := hD
  refine lv_dup hx hb dX1_feed_19 rfl ?_
  refine lv_iconst (v := (3 : Int32)) hx hb dX1_feed_20 (by decide) ?_
  refine lv_iload hx hb dX1_feed_21 (lv_at hl 4 rfl) ?_
  refine va_iastk (k := 3) hx hb hK hP hD hS 3 0 rfl rfl rfl (show ¬ _ from by decide) dX1_feed_23 (fun H locs hP hD hS => ?_)
  have hP : va_P D zCl (((cH k ah aw adr aim ard asc ath awl alo atr sh) ++ (cR k ard srd)) ++ (cF k (fun _ => q1) (upd (upd (upd (upd (fun _ => 0) 0 p1) 1 p2) 2 p3) 3 p4))) _ := hP
  have hD : va_D A (((cH k ah aw adr aim ard asc ath awl alo atr sh) ++ (cR k ard srd)) ++ (cF k (fun _ => q1) (upd (upd (upd (upd (fun _ => 0) 0 p1) 1 p2) 2 p3) 3 p4))) := hD
  refine lv_dup hx hb dX1_feed_24 rfl ?_
  refine lv_iconst (v := (4 : Int32)) hx hb dX1_feed_25 (by decide) ?_
  refine lv_iload hx hb dX1_feed_26 (lv_at hl 5 rfl) ?_
  refine va_iastk (k := 4) hx hb hK hP hD hS 3 0 rfl rfl rfl (show ¬ _ from by decide) dX1_feed_28 (fun H locs hP hD hS => ?_)
  have hP : va_P D zCl (((cH k ah aw adr aim ard asc ath awl alo atr sh) ++ (cR k ard srd)) ++ (cF k (fun _ => q1) (upd (upd (upd (upd (upd (fun _ => 0) 0 p1) 1 p2) 2 p3) 3 p4) 4 p5))) _ := hP
  have hD : va_D A (((cH k ah aw adr aim ard asc ath awl alo atr sh) ++ (cR k ard srd)) ++ (cF k (fun _ => q1) (upd (upd (upd (upd (upd (fun _ => 0) 0 p1) 1 p2) 2 p3) 3 p4) 4 p5))) := hD
  have hP : va_P D zCl ((cH k ah aw adr aim ard asc ath awl alo atr sh) ++ ((cR k ard srd) ++ (cF k (fun _ => q1) (z5 p1 p2 p3 p4 p5)))) _ := hP
  have hD : va_D A ((cH k ah aw adr aim ard asc ath awl alo atr sh) ++ ((cR k ard srd) ++ (cF k (fun _ => q1) (z5 p1 p2 p3 p4 p5)))) := hD
  refine cWVP (cH k ah aw adr aim ard asc ath awl alo atr sh) ((cR k ard srd) ++ (cF k (fun _ => q1) (z5 p1 p2 p3 p4 p5))) (As := [.ref q1]) (ci := 3) ⟨hx, hb, hml, hown, hts⟩ hOK hz hS hA hP hD (mtX3_add l D k ard (fun _ => q1) Z hOK _ _ _ _ hrun) (kX3_add hts q406 rfl rfl ⟨Nat.le_of_ble_eq_true rfl, Nat.le_of_ble_eq_true rfl⟩) 0 rfl rfl rfl hl.1 rfl (lv_room (Nat.le_of_ble_eq_true rfl)) ⟨(Nat.le_of_ble_eq_true rfl), (Nat.le_of_ble_eq_true rfl)⟩ dX1_feed_29 (fun r_ w_ H locs hq hP hD hS => ?_)
  obtain ⟨rfl, rfl⟩ := hq
  have hP := zdropP (x := ((cH k ah aw adr aim ard asc ath awl alo atr sh) ++ (cR k ard ord))) (y := (cF k (fun _ => q1) (z5 p1 p2 p3 p4 p5))) hP
  have hD := zdropD (x := ((cH k ah aw adr aim ard asc ath awl alo atr sh) ++ (cR k ard ord))) (y := (cF k (fun _ => q1) (z5 p1 p2 p3 p4 p5))) hD
  refine W.widen (k := 1) (n := 5) (Nat.le_of_ble_eq_true rfl) (Nat.le_of_ble_eq_true rfl) ?_
  exact retW_i hx hb hr hlocks hP hD hS ⟨rfl, rfl⟩ dX1_feed_32
