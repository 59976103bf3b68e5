/-! needs -/
noncomputable def fX1_needs (sh : Kp) (srd : Rd) (p1 : Nat) : Option ((String × Rd) ⊕ Rd) := mob (fX3_word srd) fun s1 => mwd s1 <| mst p1 <| if wdIs s1 p1 = true then some (.inr s1) else some (.inl ("SaturdayKeep$Wrong", s1))
def rX1_needs : Room := rLs 7 10 1606 360
theorem kX1_needs {R : Room} {s : State} {args : Array Value} {own : String} {idx mc ms : Nat} {rm : Room} (hts : ∀ w ∈ lw_all, w.before args s = true) (hl : Cond.methodLink own idx yX1_needs ∈ lw_all) (hrc : rm.cells = mc) (hrs : rm.slots = ms) (hR : rm.frames + 1 ≤ R.frames ∧ 8 + (2 + 11) + rm.locals ≤ R.locals) : CallW R s args own RX1 idx yX1_needs cX1_needs 2 none (ws_ yX1_needs cX1_needs 2 none) rm mc ms 1 :=
  cwV 1 hts (lw_V hl q1230 qs19 q107 q1231) rfl hrc hrs (by decide +kernel) hR
set_option maxRecDepth 100000 in
theorem mtX1_needs (l : Launch) (D : va_G) (k : Nat → ClassId) (ah : Nat → Nat) (aw : Nat → Nat) (adr : Nat → Nat) (aim : Nat → Nat) (ard : Nat → Nat) (asc : Nat → Nat) (ath : Nat → Nat) (awl : Nat → Nat) (alo : Nat → Nat) (atr : Nat → Nat) (Z : zZ) (hOK : zOK D zCl (zTys k) Z) (hlt : l.stackTraces = false) (hTh : zTh Z) {adK adV : Nat → Nat} (hStr : zStr Z adK adV) (hPv : zPv Z) (sh : Kp) (srd : Rd) (p1 : Nat) (o : (String × Rd) ⊕ (Rd)) (hrun : fX1_needs sh srd p1 = some o) : CtX l yX1_needs cX1_needs 2 none rX1_needs Z D zCl ((cH k ah aw adr aim ard asc ath awl alo atr sh) ++ (cR k ard srd)) [.ref (ah 0), .ref (adK p1)] (fun r' w' => ∃ (ord : Rd), o = .inr (ord) ∧ r' = none ∧ w' = ((cH k ah aw adr aim ard asc ath awl alo atr sh) ++ (cR k ard ord))) (fun E' w' => ∃ (ord : Rd), o = .inl (E', ord) ∧ w' = ((cH k ah aw adr aim ard asc ath awl alo atr sh) ++ (cR k ard ord))) 10 1606 := by
  refine CtX.of (by decide) (Nat.le_of_ble_eq_true rfl) ?_
  intro p e9 s m args below meth c A hE hnoh hA hP hD hS hz ls hl
  obtain ⟨hx, hb, hr, hml, hown, hts, hlocks, hname⟩ := hE
  have hown : s.vm.findClass RX1 = some m.cls := hown
  have hK := hOK.1 _ _ _ hz
  have hN := hOK.2.1 _ _ _ hz
  have hl : lv_has ls 2 [(0, .ref (ah 0)), (1, .ref (adK p1))] := hl
  unfold fX1_needs at hrun
  obtain ⟨s1, h1, hrun⟩ := mob_s rfl hrun
  obtain ⟨⟨b, a, hwd⟩, hrun⟩ := mwd_s rfl hrun
  obtain ⟨hi, hrun⟩ := mst_s rfl hrun
  refine lv_aload_n hx hb dX1_needs_0 rfl (lv_at hl 0 rfl) ?_
  refine va_get (ci := 1) (v := .ref (ard 0)) (C := RX1) (T := TX1) (N := 10) hx hb hts in_X1 hown hK hP 0 rfl rfl 4 (by decide) (hts _ q375) (fun _ h9 => h9) rfl dX1_needs_1 ?_
  refine cWVP (cH k ah aw adr aim ard asc ath awl alo atr sh) (cR k ard srd) (As := []) (ci := 3) ⟨hx, hb, hml, hown, hts⟩ hOK hz hS hA hP hD (mtX3_word l D k ard Z hOK (fun A U H h => (hStr A U H h).2.2.1) hPv srd s1 h1 b a hwd) (kX3_word hts q783 rfl rfl ⟨Nat.le_of_ble_eq_true rfl, Nat.le_of_ble_eq_true rfl⟩) 0 rfl rfl rfl hl.1 rfl (lv_room (Nat.le_of_ble_eq_true rfl)) ⟨(Nat.le_of_ble_eq_true rfl), (Nat.le_of_ble_eq_true rfl)⟩ dX1_needs_4 (fun r_ w_ H locs hq hP hD hS => ?_)
  obtain ⟨q, v1, f1, rfl, hF1, hf1, rfl⟩ := hq
  refine lv_aload_n hx hb dX1_needs_7 rfl (lv_at hl 1 rfl) ?_
  have hne := zneS hStr hz hi (show A q from hD.2 3 _ rfl)
  have hab : a - b < 2 ^ 31 := by have := hwd.2.2.2.1; omega
  refine cRV (As := [.ref (adK p1)]) (ci := 17) ⟨hx, hb, hml, hown, hts⟩ hOK hz hS (hP.sub (ws' := (strC k q v1 (a - b) 0 false f1)) [3, 4] rfl) ((mtJ5_eqCS l D k Z hOK (fun A U H h => (hStr A U H h).2.2.1) (adK p1) (adV p1) (stL p1) (stC p1) (stN_l p1 hi) q v1 (a - b) f1 hab 0 false hne).mono (fun A U H h => ⟨h, (hStr A U H h).1.1 p1 hi⟩)) (kJ5_equals hts q1203 rfl rfl ⟨Nat.le_of_ble_eq_true rfl, Nat.le_of_ble_eq_true rfl⟩) 0 rfl rfl rfl hl.1 rfl (lv_room (Nat.le_of_ble_eq_true rfl)) ⟨(Nat.le_of_ble_eq_true rfl), (Nat.le_of_ble_eq_true rfl)⟩ dX1_needs_8 ?_
  rw [wdIs_of hwd hf1]
  have hP := zdropP (x := ((cH k ah aw adr aim ard asc ath awl alo atr sh) ++ (cR k ard s1))) (y := (strC k q v1 (a - b) 0 false f1)) hP
  have hD := zdropD (x := ((cH k ah aw adr aim ard asc ath awl alo atr sh) ++ (cR k ard s1))) (y := (strC k q v1 (a - b) 0 false f1)) hD
  cases hv : wdIs s1 p1 with
  | true =>
    rw [if_pos hv] at hrun
    refine lv_if_ne (tgt := 22) hx hb dX1_needs_11 (by decide) (fun _ => ?_) (fun c1 => absurd c1 (by decide))
    cases hrun
    refine W.widen (k := 10) (n := 1606) (Nat.le_of_ble_eq_true rfl) (Nat.le_of_ble_eq_true rfl) ?_
    exact vx_ret (retW_v hx hb hr hlocks hP hD hS ⟨_, rfl, rfl, rfl⟩ dX1_needs_22)
  | false =>
    rw [if_neg (by rw [hv]; decide)] at hrun
    refine lv_if_ne (tgt := 22) hx hb dX1_needs_11 (by decide) (fun c1 => absurd rfl c1) (fun _ => ?_)
    refine lv_aload_n hx hb dX1_needs_14 rfl (lv_at hl 0 rfl) ?_
    refine va_get (ci := 1) (v := .ref (ard 0)) (C := RX1) (T := TX1) (N := 10) hx hb hts in_X1 hown hK hP 0 rfl rfl 4 (by decide) (hts _ q375) (fun _ h9 => h9) rfl dX1_needs_15 ?_
    cases hrun
    have hP : va_P D zCl ((cH k ah aw adr aim ard asc ath awl alo atr sh) ++ ((cR k ard s1) ++ [])) _ := hP
    have hD : va_D A ((cH k ah aw adr aim ard asc ath awl alo atr sh) ++ ((cR k ard s1) ++ [])) := hD
    refine cWV (cH k ah aw adr aim ard asc ath awl alo atr sh) (cR k ard s1) [] (As := []) (ci := 3) ⟨hx, hb, hml, hown, hts⟩ hOK hz hS hA hP hD (mtX3_wrongR l D k Z hOK hTh ard s1) (kX3_wrong hts q1113 rfl rfl ⟨Nat.le_of_ble_eq_true rfl, Nat.le_of_ble_eq_true rfl⟩) 0 rfl rfl rfl hl.1 rfl (lv_room (Nat.le_of_ble_eq_true rfl)) ⟨(Nat.le_of_ble_eq_true rfl), (Nat.le_of_ble_eq_true rfl)⟩ dX1_needs_18 (fun r_ w_ H locs hq hP hD hS => ?_)
    obtain ⟨qw_, rfl, rfl⟩ := hq
    obtain ⟨ce_, hce_, hcv_, hcl_⟩ := zWr hK hP 3 rfl
    refine vx_athrow hx hb dX1_needs_21 ?_
    have hP := hP.sub (ws' := ((cH k ah aw adr aim ard asc ath awl alo atr sh) ++ (cR k ard s1))) [0, 1, 2] rfl
    have hD := hD.sub (ws' := ((cH k ah aw adr aim ard asc ath awl alo atr sh) ++ (cR k ard s1))) [0, 1, 2] (by decide) rfl
    exact zout hnoh hlocks hce_ hcv_ hcl_ hP hD hS ⟨_, rfl, rfl⟩ (Nat.le_of_ble_eq_true rfl) (Nat.le_of_ble_eq_true rfl)
