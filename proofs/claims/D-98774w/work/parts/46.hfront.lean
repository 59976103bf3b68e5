/-! A LINE OF THE HOUSE, whole -/
def hcase (s : Rd) : Int32 := if wdIs s 0 = true then (0 : Int32) else if wdIs s 1 = true then (1 : Int32) else if wdIs s 2 = true then (2 : Int32) else if wdIs s 3 = true then (3 : Int32) else if wdIs s 4 = true then (4 : Int32) else if wdIs s 5 = true then (5 : Int32) else if wdIs s 6 = true then (6 : Int32) else if wdIs s 7 = true then (7 : Int32) else if wdIs s 8 = true then (8 : Int32) else (-1 : Int32)
theorem hcase_0 {s : Rd} (h : ∀ j, j < 9 → j ≠ 0 → wdIs s j = false) : hcase s = if wdIs s 0 = true then (0 : Int32) else (-1 : Int32) := by
  unfold hcase
  skip
  by_cases q : wdIs s 0 = true
  · rw [if_pos q, if_pos q]
  · rw [if_neg q, if_neg q, if_neg (show ¬ wdIs s 1 = true by rw [h 1 (by decide) (by decide)]; decide), if_neg (show ¬ wdIs s 2 = true by rw [h 2 (by decide) (by decide)]; decide), if_neg (show ¬ wdIs s 3 = true by rw [h 3 (by decide) (by decide)]; decide), if_neg (show ¬ wdIs s 4 = true by rw [h 4 (by decide) (by decide)]; decide), if_neg (show ¬ wdIs s 5 = true by rw [h 5 (by decide) (by decide)]; decide), if_neg (show ¬ wdIs s 6 = true by rw [h 6 (by decide) (by decide)]; decide), if_neg (show ¬ wdIs s 7 = true by rw [h 7 (by decide) (by decide)]; decide), if_neg (show ¬ wdIs s 8 = true by rw [h 8 (by decide) (by decide)]; decide)]
theorem hcase_1 {s : Rd} (h : ∀ j, j < 9 → j ≠ 1 → wdIs s j = false) : hcase s = if wdIs s 1 = true then (1 : Int32) else (-1 : Int32) := by
  unfold hcase
  rw [if_neg (show ¬ wdIs s 0 = true by rw [h 0 (by decide) (by decide)]; decide)]
  by_cases q : wdIs s 1 = true
  · rw [if_pos q, if_pos q]
  · rw [if_neg q, if_neg q, if_neg (show ¬ wdIs s 2 = true by rw [h 2 (by decide) (by decide)]; decide), if_neg (show ¬ wdIs s 3 = true by rw [h 3 (by decide) (by decide)]; decide), if_neg (show ¬ wdIs s 4 = true by rw [h 4 (by decide) (by decide)]; decide), if_neg (show ¬ wdIs s 5 = true by rw [h 5 (by decide) (by decide)]; decide), if_neg (show ¬ wdIs s 6 = true by rw [h 6 (by decide) (by decide)]; decide), if_neg (show ¬ wdIs s 7 = true by rw [h 7 (by decide) (by decide)]; decide), if_neg (show ¬ wdIs s 8 = true by rw [h 8 (by decide) (by decide)]; decide)]
theorem hcase_2 {s : Rd} (h : ∀ j, j < 9 → j ≠ 2 → wdIs s j = false) : hcase s = if wdIs s 2 = true then (2 : Int32) else (-1 : Int32) := by
  unfold hcase
  rw [if_neg (show ¬ wdIs s 0 = true by rw [h 0 (by decide) (by decide)]; decide), if_neg (show ¬ wdIs s 1 = true by rw [h 1 (by decide) (by decide)]; decide)]
  by_cases q : wdIs s 2 = true
  · rw [if_pos q, if_pos q]
  · rw [if_neg q, if_neg q, if_neg (show ¬ wdIs s 3 = true by rw [h 3 (by decide) (by decide)]; decide), if_neg (show ¬ wdIs s 4 = true by rw [h 4 (by decide) (by decide)]; decide), if_neg (show ¬ wdIs s 5 = true by rw [h 5 (by decide) (by decide)]; decide), if_neg (show ¬ wdIs s 6 = true by rw [h 6 (by decide) (by decide)]; decide), if_neg (show ¬ wdIs s 7 = true by rw [h 7 (by decide) (by decide)]; decide), if_neg (show ¬ wdIs s 8 = true by rw [h 8 (by decide) (by decide)]; decide)]
theorem hcase_3 {s : Rd} (h : ∀ j, j < 9 → j ≠ 3 → wdIs s j = false) : hcase s = if wdIs s 3 = true then (3 : Int32) else (-1 : Int32) := by
  unfold hcase
  rw [if_neg (show ¬ wdIs s 0 = true by rw [h 0 (by decide) (by decide)]; decide), if_neg (show ¬ wdIs s 1 = true by rw [h 1 (by decide) (by decide)]; decide), if_neg (show ¬ wdIs s 2 = true by rw [h 2 (by decide) (by decide)]; decide)]
  by_cases q : wdIs s 3 = true
  · rw [if_pos q, if_pos q]
  · rw [if_neg q, if_neg q, if_neg (show ¬ wdIs s 4 = true by rw [h 4 (by decide) (by decide)]; decide), if_neg (show ¬ wdIs s 5 = true by rw [h 5 (by decide) (by decide)]; decide), if_neg (show ¬ wdIs s 6 = true by rw [h 6 (by decide) (by decide)]; decide), if_neg (show ¬ wdIs s 7 = true by rw [h 7 (by decide) (by decide)]; decide), if_neg (show ¬ wdIs s 8 = true by rw [h 8 (by decide) (by decide)]; decide)]
theorem hcase_4 {s : Rd} (h : ∀ j, j < 9 → j ≠ 4 → wdIs s j = false) : hcase s = if wdIs s 4 = true then (4 : Int32) else (-1 : Int32) := by
  unfold hcase
  rw [if_neg (show ¬ wdIs s 0 = true by rw [h 0 (by decide) (by decide)]; decide), if_neg (show ¬ wdIs s 1 = true by rw [h 1 (by decide) (by decide)]; decide), if_neg (show ¬ wdIs s 2 = true by rw [h 2 (by decide) (by decide)]; decide), if_neg (show ¬ wdIs s 3 = true by rw [h 3 (by decide) (by decide)]; decide)]
  by_cases q : wdIs s 4 = true
  · rw [if_pos q, if_pos q]
  · rw [if_neg q, if_neg q, if_neg (show ¬ wdIs s 5 = true by rw [h 5 (by decide) (by decide)]; decide), if_neg (show ¬ wdIs s 6 = true by rw [h 6 (by decide) (by decide)]; decide), if_neg (show ¬ wdIs s 7 = true by rw [h 7 (by decide) (by decide)]; decide), if_neg (show ¬ wdIs s 8 = true by rw [h 8 (by decide) (by decide)]; decide)]
theorem hcase_5 {s : Rd} (h : ∀ j, j < 9 → j ≠ 5 → wdIs s j = false) : hcase s = if wdIs s 5 = true then (5 : Int32) else (-1 : Int32) := by
  unfold hcase
  rw [if_neg (show ¬ wdIs s 0 = true by rw [h 0 (by decide) (by decide)]; decide), if_neg (show ¬ wdIs s 1 = true by rw [h 1 (by decide) (by decide)]; decide), if_neg (show ¬ wdIs s 2 = true by rw [h 2 (by decide) (by decide)]; decide), if_neg (show ¬ wdIs s 3 = true by rw [h 3 (by decide) (by decide)]; decide), if_neg (show ¬ wdIs s 4 = true by rw [h 4 (by decide) (by decide)]; decide)]
  by_cases q : wdIs s 5 = true
  · rw [if_pos q, if_pos q]
  · rw [if_neg q, if_neg q, if_neg (show ¬ wdIs s 6 = true by rw [h 6 (by decide) (by decide)]; decide), if_neg (show ¬ wdIs s 7 = true by rw [h 7 (by decide) (by decide)]; decide), if_neg (show ¬ wdIs s 8 = true by rw [h 8 (by decide) (by decide)]; decide)]
theorem hcase_6 {s : Rd} (h : ∀ j, j < 9 → j ≠ 6 → wdIs s j = false) : hcase s = if wdIs s 6 = true then (6 : Int32) else (-1 : Int32) := by
  unfold hcase
  rw [if_neg (show ¬ wdIs s 0 = true by rw [h 0 (by decide) (by decide)]; decide), if_neg (show ¬ wdIs s 1 = true by rw [h 1 (by decide) (by decide)]; decide), if_neg (show ¬ wdIs s 2 = true by rw [h 2 (by decide) (by decide)]; decide), if_neg (show ¬ wdIs s 3 = true by rw [h 3 (by decide) (by decide)]; decide), if_neg (show ¬ wdIs s 4 = true by rw [h 4 (by decide) (by decide)]; decide), if_neg (show ¬ wdIs s 5 = true by rw [h 5 (by decide) (by decide)]; decide)]
  by_cases q : wdIs s 6 = true
  · rw [if_pos q, if_pos q]
  · rw [if_neg q, if_neg q, if_neg (show ¬ wdIs s 7 = true by rw [h 7 (by decide) (by decide)]; decide), if_neg (show ¬ wdIs s 8 = true by rw [h 8 (by decide) (by decide)]; decide)]
theorem hcase_7 {s : Rd} (h : ∀ j, j < 9 → j ≠ 7 → wdIs s j = false) : hcase s = if wdIs s 7 = true then (7 : Int32) else (-1 : Int32) := by
  unfold hcase
  rw [if_neg (show ¬ wdIs s 0 = true by rw [h 0 (by decide) (by decide)]; decide), if_neg (show ¬ wdIs s 1 = true by rw [h 1 (by decide) (by decide)]; decide), if_neg (show ¬ wdIs s 2 = true by rw [h 2 (by decide) (by decide)]; decide), if_neg (show ¬ wdIs s 3 = true by rw [h 3 (by decide) (by decide)]; decide), if_neg (show ¬ wdIs s 4 = true by rw [h 4 (by decide) (by decide)]; decide), if_neg (show ¬ wdIs s 5 = true by rw [h 5 (by decide) (by decide)]; decide), if_neg (show ¬ wdIs s 6 = true by rw [h 6 (by decide) (by decide)]; decide)]
  by_cases q : wdIs s 7 = true
  · rw [if_pos q, if_pos q]
  · rw [if_neg q, if_neg q, if_neg (show ¬ wdIs s 8 = true by rw [h 8 (by decide) (by decide)]; decide)]
theorem hcase_8 {s : Rd} (h : ∀ j, j < 9 → j ≠ 8 → wdIs s j = false) : hcase s = if wdIs s 8 = true then (8 : Int32) else (-1 : Int32) := by
  unfold hcase
  rw [if_neg (show ¬ wdIs s 0 = true by rw [h 0 (by decide) (by decide)]; decide), if_neg (show ¬ wdIs s 1 = true by rw [h 1 (by decide) (by decide)]; decide), if_neg (show ¬ wdIs s 2 = true by rw [h 2 (by decide) (by decide)]; decide), if_neg (show ¬ wdIs s 3 = true by rw [h 3 (by decide) (by decide)]; decide), if_neg (show ¬ wdIs s 4 = true by rw [h 4 (by decide) (by decide)]; decide), if_neg (show ¬ wdIs s 5 = true by rw [h 5 (by decide) (by decide)]; decide), if_neg (show ¬ wdIs s 6 = true by rw [h 6 (by decide) (by decide)]; decide), if_neg (show ¬ wdIs s 7 = true by rw [h 7 (by decide) (by decide)]; decide)]
theorem hcase_n {s : Rd} (h : ∀ j, j < 9 → wdIs s j = false) : hcase s = (-1 : Int32) := by
  unfold hcase
  rw [if_neg (show ¬ wdIs s 0 = true by rw [h 0 (by decide)]; decide), if_neg (show ¬ wdIs s 1 = true by rw [h 1 (by decide)]; decide), if_neg (show ¬ wdIs s 2 = true by rw [h 2 (by decide)]; decide), if_neg (show ¬ wdIs s 3 = true by rw [h 3 (by decide)]; decide), if_neg (show ¬ wdIs s 4 = true by rw [h 4 (by decide)]; decide), if_neg (show ¬ wdIs s 5 = true by rw [h 5 (by decide)]; decide), if_neg (show ¬ wdIs s 6 = true by rw [h 6 (by decide)]; decide), if_neg (show ¬ wdIs s 7 = true by rw [h 7 (by decide)]; decide), if_neg (show ¬ wdIs s 8 = true by rw [h 8 (by decide)]; decide)]
theorem neI {x y : Int32} {n : Int} (h : ¬ x = y) (e : y.toInt = n) : ¬ n = x.toInt := fun q => h (Int32.toInt_inj.mp (by rw [e, q]))
theorem hk_ne : ∀ i, i < 9 → ∀ j, j < 9 → i ≠ j → hkey i ≠ hkey j := by decide +kernel
noncomputable def fX1_hline (sh : Kp) (su : Wd) (srd : Rd) : Option ((String × Wd × Rd) ⊕ (Wd × Rd)) := mob (fX3_word srd) fun s1 => mwd s1 <| fX1_houseLine sh su s1 (hcase s1)
theorem kX1_houseLine {R : Room} {s : State} {args : Array Value} {own : String} {idx mc ms : Nat} {rm : Room} (hts : ∀ w ∈ lw_all, w.before args s = true) (hl : Cond.methodLink own idx yX1_houseLine ∈ lw_all) (hrc : rm.cells = mc) (hrs : rm.slots = ms) (hR : rm.frames + 1 ≤ R.frames ∧ 8 + (6 + 11) + rm.locals ≤ R.locals) : CallW R s args own RX1 idx yX1_houseLine cX1_houseLine 6 none (ws_ yX1_houseLine cX1_houseLine 6 none) rm mc ms 1 :=
  cwV 1 hts (lw_V hl q1139 qs16 q107 q1140) rfl hrc hrs (by decide +kernel) hR
set_option maxRecDepth 100000 in
theorem mtX1_hline (l : Launch) (D : va_G) (k : Nat → ClassId) (ah aw adr aim ard asc ath awl alo atr : Nat → Nat) (au : Nat → Nat) (Z : zZ) (hOK : zOK D zCl (zTys k) Z) (hlt : l.stackTraces = false) (hTh : zTh Z) {adK adV : Nat → Nat} (hStr : zStr Z adK adV) (hPv : zPv Z) (sh : Kp) (su : Wd) (srd : Rd) (o : (String × Wd × Rd) ⊕ (Wd × Rd)) (hrun : fX1_hline sh su srd = some o) : CtX l yX1_houseLine cX1_houseLine 6 none rX1_houseLine Z D zCl ((cH k ah aw adr aim ard asc ath awl alo atr sh) ++ ((cW k au su) ++ (cR k ard srd))) [.ref (ah 0), .ref (au 0)] (fun r' w' => ∃ (ou : Wd) (ord : Rd), o = .inr (ou, ord) ∧ r' = none ∧ w' = ((cH k ah aw adr aim ard asc ath awl alo atr sh) ++ ((cW k au ou) ++ (cR k ard ord)))) (fun E' w' => ∃ (ou : Wd) (ord : Rd), o = .inl (E', (ou, ord)) ∧ w' = ((cH k ah aw adr aim ard asc ath awl alo atr sh) ++ ((cW k au ou) ++ (cR k ard ord)))) 50 8030 := by
  refine CtX.of (by decide) (Nat.le_of_ble_eq_true rfl) ?_
  intro p e s m args below meth c A hE hnoh hA hP hD hS hz ls hl
  have hE9 := hE
  obtain ⟨hx, hb, hr, hml, hown, hts, hlocks, hname⟩ := hE
  have hown : s.vm.findClass RX1 = some m.cls := hown
  have hK := hOK.1 _ _ _ hz
  have hN := hOK.2.1 _ _ _ hz
  have hl : lv_has ls 6 [(0, .ref (ah 0)), (1, .ref (au 0))] := hl
  unfold fX1_hline at hrun
  obtain ⟨s1, h1, hrun⟩ := mob_s rfl hrun
  obtain ⟨⟨b, a, hwd⟩, hrun⟩ := mwd_s rfl hrun
  have hab : a - b < 2 ^ 31 := by have := hwd.2.2.2.1; omega
  refine lv_aload_n hx hb dX1_houseLine_0 rfl (lv_at hl 0 rfl) ?_
  refine va_get (ci := 1) (v := .ref (ard 0)) (C := RX1) (T := TX1) (N := 10) hx hb hts in_X1 hown hK hP 0 rfl rfl 4 (by decide) (hts _ q375) (fun _ h9 => h9) rfl dX1_houseLine_1 ?_
  refine lv_astore_n (lv' := [(2, .ref (ard 0)), (0, .ref (ah 0)), (1, .ref (au 0))]) hx hb dX1_houseLine_4 rfl hl (by decide) rfl (fun ls hl => ?_)
  refine lv_aload_n hx hb dX1_houseLine_5 rfl (lv_at hl 0 rfl) ?_
  have hP : va_P D zCl (zcat [(cH k ah aw adr aim ard asc ath awl alo atr sh), (cW k au su), (cR k ard srd)]) _ := hP
  have hD : va_D A (zcat [(cH k ah aw adr aim ard asc ath awl alo atr sh), (cW k au su), (cR k ard srd)]) := hD
  have hP := zsP [(cH k ah aw adr aim ard asc ath awl alo atr sh), (cW k au su), (cR k ard srd)] 3 [0, 1] [2] hP rfl (by decide)
  have hD := zsD [(cH k ah aw adr aim ard asc ath awl alo atr sh), (cW k au su), (cR k ard srd)] 3 [0, 1] [2] hD rfl (by decide)
  have hP : va_P D zCl (((cH k ah aw adr aim ard asc ath awl alo atr sh) ++ (cW k au su)) ++ (cR k ard srd)) _ := hP
  have hD : va_D A (((cH k ah aw adr aim ard asc ath awl alo atr sh) ++ (cW k au su)) ++ (cR k ard srd)) := hD
  refine cWVP ((cH k ah aw adr aim ard asc ath awl alo atr sh) ++ (cW k au su)) (cR k ard srd) (As := []) (ci := 3) ⟨hx, hb, hml, hown, hts⟩ hOK hz hS hA hP hD (mtX3_word l D k ard Z hOK (fun A U H h => (hStr A U H h).2.2.1) hPv srd s1 h1 b a hwd) (kX3_word hts q783 rfl rfl ⟨Nat.le_of_ble_eq_true rfl, Nat.le_of_ble_eq_true rfl⟩) 0 rfl rfl rfl hl.1 rfl (lv_room (Nat.le_of_ble_eq_true rfl)) ⟨Nat.le_of_ble_eq_true rfl, Nat.le_of_ble_eq_true rfl⟩ dX1_houseLine_6 (fun r_ w_ H locs hq hP hD hS => ?_)
  obtain ⟨q, v1, f1, rfl, hF1, hf1, rfl⟩ := hq
  refine lv_astore_n (lv' := [(3, .ref q), (2, .ref (ard 0)), (0, .ref (ah 0)), (1, .ref (au 0))]) hx hb dX1_houseLine_9 rfl hl (by decide) rfl (fun ls hl => ?_)
  refine lv_iconst (v := (-1 : Int32)) hx hb dX1_houseLine_10 (by decide) ?_
  refine lv_istore (lv' := [(4, .int (-1 : Int32)), (3, .ref q), (2, .ref (ard 0)), (0, .ref (ah 0)), (1, .ref (au 0))]) hx hb dX1_houseLine_11 hl (by decide) rfl (fun ls hl => ?_)
  refine lv_aload_n hx hb dX1_houseLine_13 rfl (lv_at hl 1 rfl) ?_
  have hP : va_P D zCl (((cH k ah aw adr aim ard asc ath awl alo atr sh) ++ (cW k au su)) ++ ((cR k ard s1) ++ (strC k q v1 (a - b) 0 false f1))) _ := hP
  have hD : va_D A (((cH k ah aw adr aim ard asc ath awl alo atr sh) ++ (cW k au su)) ++ ((cR k ard s1) ++ (strC k q v1 (a - b) 0 false f1))) := hD
  have hP := zjP [(cH k ah aw adr aim ard asc ath awl alo atr sh), (cW k au su)] [(cR k ard s1), (strC k q v1 (a - b) 0 false f1)] hP
  have hD := zjD [(cH k ah aw adr aim ard asc ath awl alo atr sh), (cW k au su)] [(cR k ard s1), (strC k q v1 (a - b) 0 false f1)] hD
  have hP := zsP [(cH k ah aw adr aim ard asc ath awl alo atr sh), (cW k au su), (cR k ard s1), (strC k q v1 (a - b) 0 false f1)] 4 [0, 1, 2] [3] hP rfl (by decide)
  have hD := zsD [(cH k ah aw adr aim ard asc ath awl alo atr sh), (cW k au su), (cR k ard s1), (strC k q v1 (a - b) 0 false f1)] 4 [0, 1, 2] [3] hD rfl (by decide)
  have hP : va_P D zCl (((cH k ah aw adr aim ard asc ath awl alo atr sh) ++ ((cW k au su) ++ (cR k ard s1))) ++ (strC k q v1 (a - b) 0 false f1)) _ := hP
  have hD : va_D A (((cH k ah aw adr aim ard asc ath awl alo atr sh) ++ ((cW k au su) ++ (cR k ard s1))) ++ (strC k q v1 (a - b) 0 false f1)) := hD
  refine cWVP ((cH k ah aw adr aim ard asc ath awl alo atr sh) ++ ((cW k au su) ++ (cR k ard s1))) (strC k q v1 (a - b) 0 false f1) (As := []) (ci := 17) ⟨hx, hb, hml, hown, hts⟩ hOK hz hS hA hP hD (mtJ5_hash l D k Z hOK (fun A U H h => (hStr A U H h).2.2.1) q v1 (a - b) f1 hab) (kJ5_hashCode hts q1141 rfl rfl ⟨Nat.le_of_ble_eq_true rfl, Nat.le_of_ble_eq_true rfl⟩) 0 rfl rfl rfl hl.1 rfl (lv_room (Nat.le_of_ble_eq_true rfl)) ⟨Nat.le_of_ble_eq_true rfl, Nat.le_of_ble_eq_true rfl⟩ dX1_houseLine_14 (fun r_ w_ H locs hq hP hD hS => ?_)
  obtain ⟨h9, z9, rfl, rfl⟩ := hq
  have hx9 : ∀ i, wdIs s1 i = true → hsS f1 (a - b) = hkey i := fun i q9 => wd_hash ((wdIs_of hwd hf1).trans q9)
  obtain ⟨kv0, kv1, kv2, kv3, kv4, kv5, kv6, kv7, kv8⟩ := hkey_v
  have hAq : A q := hD.2 12 _ rfl
  by_cases c0 : hsS f1 (a - b) = (98708952 : Int32)
  · have hi9 : hsS f1 (a - b) = hkey 0 := c0.trans kv0.symm
    have hno : ∀ j, j < 9 → j ≠ 0 → wdIs s1 j = false := fun j hj hne => by
      cases h7 : wdIs s1 j with
      | false => rfl
      | true => exact absurd ((hx9 j h7).symm.trans hi9) (hk_ne j hj 0 (by decide) hne)
    rw [hcase_0 hno] at hrun
    refine lv_lookup (x := hsS f1 (a - b)) (off := 83) (tgt := 100) hx hb dX1_houseLine_17 (by decide) (by rw [c0]; decide) (by decide) ?_
    refine lv_aload_n hx hb dX1_houseLine_100 rfl (lv_at hl 1 rfl) ?_
    refine va_ldcS hx hb hown (sr0 hStr hz) dX1_houseLine_101 ?_
    have hne := zneS hStr hz (i := 0) (by decide) hAq
    refine cRV (As := [.ref (adK 0)]) (ci := 17) ⟨hx, hb, hml, hown, hts⟩ hOK hz hS (hP.sub (ws' := (strC k q v1 (a - b) h9 z9 f1)) [12, 13] rfl) ((mtJ5_eqCS l D k Z hOK (fun A U H h => (hStr A U H h).2.2.1) (adK 0) (adV 0) (stL 0) (stC 0) (stN_l 0 (by decide)) q v1 (a - b) f1 hab h9 z9 hne).mono (fun A U H h => ⟨h, (hStr A U H h).1.1 0 (by decide)⟩)) (kJ5_equals hts q1203 rfl rfl ⟨Nat.le_of_ble_eq_true rfl, Nat.le_of_ble_eq_true rfl⟩) 0 rfl rfl rfl hl.1 rfl (lv_room (Nat.le_of_ble_eq_true rfl)) ⟨Nat.le_of_ble_eq_true rfl, Nat.le_of_ble_eq_true rfl⟩ dX1_houseLine_103 ?_
    rw [wdIs_of hwd hf1]
    have hP := zdropP (x := ((cH k ah aw adr aim ard asc ath awl alo atr sh) ++ ((cW k au su) ++ (cR k ard s1)))) (y := (strC k q v1 (a - b) h9 z9 f1)) hP
    have hD := zdropD (x := ((cH k ah aw adr aim ard asc ath awl alo atr sh) ++ ((cW k au su) ++ (cR k ard s1)))) (y := (strC k q v1 (a - b) h9 z9 f1)) hD
    cases hv : wdIs s1 0 with
    | true =>
      rw [if_pos hv] at hrun
      refine lv_if_eq (tgt := 235) hx hb dX1_houseLine_106 (by decide) (fun c9 => absurd c9 (by decide)) (fun _ => ?_)
      refine lv_iconst (v := (0 : Int32)) hx hb dX1_houseLine_109 (by decide) ?_
      refine lv_istore (lv' := [(4, .int (0 : Int32)), (3, .ref q), (2, .ref (ard 0)), (0, .ref (ah 0)), (1, .ref (au 0))]) hx hb dX1_houseLine_110 hl (by decide) rfl (fun ls hl => ?_)
      refine lv_goto (tgt := 235) hx hb dX1_houseLine_112 (by decide) ?_
      exact wtX1_houseLine l D k ah aw adr aim ard asc ath awl alo atr au Z hOK hlt hTh hStr hPv sh su s1 ((0 : Int32)) o hrun p e s m args below meth c A hE9 hnoh hA hz H locs hP hD hS ls (lv_sub hl [3, 4, 2, 0] rfl)
    | false =>
      rw [if_neg (by rw [hv]; decide)] at hrun
      refine lv_if_eq (tgt := 235) hx hb dX1_houseLine_106 (by decide) (fun _ => ?_) (fun c9 => absurd rfl c9)
      exact wtX1_houseLine l D k ah aw adr aim ard asc ath awl alo atr au Z hOK hlt hTh hStr hPv sh su s1 (-1) o hrun p e s m args below meth c A hE9 hnoh hA hz H locs hP hD hS ls (lv_sub hl [3, 4, 2, 0] rfl)
  by_cases c1 : hsS f1 (a - b) = (3208384 : Int32)
  · have hi9 : hsS f1 (a - b) = hkey 1 := c1.trans kv1.symm
    have hno : ∀ j, j < 9 → j ≠ 1 → wdIs s1 j = false := fun j hj hne => by
      cases h7 : wdIs s1 j with
      | false => rfl
      | true => exact absurd ((hx9 j h7).symm.trans hi9) (hk_ne j hj 1 (by decide) hne)
    rw [hcase_1 hno] at hrun
    refine lv_lookup (x := hsS f1 (a - b)) (off := 98) (tgt := 115) hx hb dX1_houseLine_17 (by decide) (by rw [c1]; decide) (by decide) ?_
    refine lv_aload_n hx hb dX1_houseLine_115 rfl (lv_at hl 1 rfl) ?_
    refine va_ldcS hx hb hown (sr1 hStr hz) dX1_houseLine_116 ?_
    have hne := zneS hStr hz (i := 1) (by decide) hAq
    refine cRV (As := [.ref (adK 1)]) (ci := 17) ⟨hx, hb, hml, hown, hts⟩ hOK hz hS (hP.sub (ws' := (strC k q v1 (a - b) h9 z9 f1)) [12, 13] rfl) ((mtJ5_eqCS l D k Z hOK (fun A U H h => (hStr A U H h).2.2.1) (adK 1) (adV 1) (stL 1) (stC 1) (stN_l 1 (by decide)) q v1 (a - b) f1 hab h9 z9 hne).mono (fun A U H h => ⟨h, (hStr A U H h).1.1 1 (by decide)⟩)) (kJ5_equals hts q1203 rfl rfl ⟨Nat.le_of_ble_eq_true rfl, Nat.le_of_ble_eq_true rfl⟩) 0 rfl rfl rfl hl.1 rfl (lv_room (Nat.le_of_ble_eq_true rfl)) ⟨Nat.le_of_ble_eq_true rfl, Nat.le_of_ble_eq_true rfl⟩ dX1_houseLine_118 ?_
    rw [wdIs_of hwd hf1]
    have hP := zdropP (x := ((cH k ah aw adr aim ard asc ath awl alo atr sh) ++ ((cW k au su) ++ (cR k ard s1)))) (y := (strC k q v1 (a - b) h9 z9 f1)) hP
    have hD := zdropD (x := ((cH k ah aw adr aim ard asc ath awl alo atr sh) ++ ((cW k au su) ++ (cR k ard s1)))) (y := (strC k q v1 (a - b) h9 z9 f1)) hD
    cases hv : wdIs s1 1 with
    | true =>
      rw [if_pos hv] at hrun
      refine lv_if_eq (tgt := 235) hx hb dX1_houseLine_121 (by decide) (fun c9 => absurd c9 (by decide)) (fun _ => ?_)
      refine lv_iconst (v := (1 : Int32)) hx hb dX1_houseLine_124 (by decide) ?_
      refine lv_istore (lv' := [(4, .int (1 : Int32)), (3, .ref q), (2, .ref (ard 0)), (0, .ref (ah 0)), (1, .ref (au 0))]) hx hb dX1_houseLine_125 hl (by decide) rfl (fun ls hl => ?_)
      refine lv_goto (tgt := 235) hx hb dX1_houseLine_127 (by decide) ?_
      exact wtX1_houseLine l D k ah aw adr aim ard asc ath awl alo atr au Z hOK hlt hTh hStr hPv sh su s1 ((1 : Int32)) o hrun p e s m args below meth c A hE9 hnoh hA hz H locs hP hD hS ls (lv_sub hl [3, 4, 2, 0] rfl)
    | false =>
      rw [if_neg (by rw [hv]; decide)] at hrun
      refine lv_if_eq (tgt := 235) hx hb dX1_houseLine_121 (by decide) (fun _ => ?_) (fun c9 => absurd rfl c9)
      exact wtX1_houseLine l D k ah aw adr aim ard asc ath awl alo atr au Z hOK hlt hTh hStr hPv sh su s1 (-1) o hrun p e s m args below meth c A hE9 hnoh hA hz H locs hP hD hS ls (lv_sub hl [3, 4, 2, 0] rfl)
  by_cases c2 : hsS f1 (a - b) = (3016435 : Int32)
  · have hi9 : hsS f1 (a - b) = hkey 2 := c2.trans kv2.symm
    have hno : ∀ j, j < 9 → j ≠ 2 → wdIs s1 j = false := fun j hj hne => by
      cases h7 : wdIs s1 j with
      | false => rfl
      | true => exact absurd ((hx9 j h7).symm.trans hi9) (hk_ne j hj 2 (by decide) hne)
    rw [hcase_2 hno] at hrun
    refine lv_lookup (x := hsS f1 (a - b)) (off := 113) (tgt := 130) hx hb dX1_houseLine_17 (by decide) (by rw [c2]; decide) (by decide) ?_
    refine lv_aload_n hx hb dX1_houseLine_130 rfl (lv_at hl 1 rfl) ?_
    refine va_ldcS hx hb hown (sr2 hStr hz) dX1_houseLine_131 ?_
    have hne := zneS hStr hz (i := 2) (by decide) hAq
    refine cRV (As := [.ref (adK 2)]) (ci := 17) ⟨hx, hb, hml, hown, hts⟩ hOK hz hS (hP.sub (ws' := (strC k q v1 (a - b) h9 z9 f1)) [12, 13] rfl) ((mtJ5_eqCS l D k Z hOK (fun A U H h => (hStr A U H h).2.2.1) (adK 2) (adV 2) (stL 2) (stC 2) (stN_l 2 (by decide)) q v1 (a - b) f1 hab h9 z9 hne).mono (fun A U H h => ⟨h, (hStr A U H h).1.1 2 (by decide)⟩)) (kJ5_equals hts q1203 rfl rfl ⟨Nat.le_of_ble_eq_true rfl, Nat.le_of_ble_eq_true rfl⟩) 0 rfl rfl rfl hl.1 rfl (lv_room (Nat.le_of_ble_eq_true rfl)) ⟨Nat.le_of_ble_eq_true rfl, Nat.le_of_ble_eq_true rfl⟩ dX1_houseLine_133 ?_
    rw [wdIs_of hwd hf1]
    have hP := zdropP (x := ((cH k ah aw adr aim ard asc ath awl alo atr sh) ++ ((cW k au su) ++ (cR k ard s1)))) (y := (strC k q v1 (a - b) h9 z9 f1)) hP
    have hD := zdropD (x := ((cH k ah aw adr aim ard asc ath awl alo atr sh) ++ ((cW k au su) ++ (cR k ard s1)))) (y := (strC k q v1 (a - b) h9 z9 f1)) hD
    cases hv : wdIs s1 2 with
    | true =>
      rw [if_pos hv] at hrun
      refine lv_if_eq (tgt := 235) hx hb dX1_houseLine_136 (by decide) (fun c9 => absurd c9 (by decide)) (fun _ => ?_)
      refine lv_iconst (v := (2 : Int32)) hx hb dX1_houseLine_139 (by decide) ?_
      refine lv_istore (lv' := [(4, .int (2 : Int32)), (3, .ref q), (2, .ref (ard 0)), (0, .ref (ah 0)), (1, .ref (au 0))]) hx hb dX1_houseLine_140 hl (by decide) rfl (fun ls hl => ?_)
      refine lv_goto (tgt := 235) hx hb dX1_houseLine_142 (by decide) ?_
      exact wtX1_houseLine l D k ah aw adr aim ard asc ath awl alo atr au Z hOK hlt hTh hStr hPv sh su s1 ((2 : Int32)) o hrun p e s m args below meth c A hE9 hnoh hA hz H locs hP hD hS ls (lv_sub hl [3, 4, 2, 0] rfl)
    | false =>
      rw [if_neg (by rw [hv]; decide)] at hrun
      refine lv_if_eq (tgt := 235) hx hb dX1_houseLine_136 (by decide) (fun _ => ?_) (fun c9 => absurd rfl c9)
      exact wtX1_houseLine l D k ah aw adr aim ard asc ath awl alo atr au Z hOK hlt hTh hStr hPv sh su s1 (-1) o hrun p e s m args below meth c A hE9 hnoh hA hz H locs hP hD hS ls (lv_sub hl [3, 4, 2, 0] rfl)
  by_cases c3 : hsS f1 (a - b) = (109407362 : Int32)
  · have hi9 : hsS f1 (a - b) = hkey 3 := c3.trans kv3.symm
    have hno : ∀ j, j < 9 → j ≠ 3 → wdIs s1 j = false := fun j hj hne => by
      cases h7 : wdIs s1 j with
      | false => rfl
      | true => exact absurd ((hx9 j h7).symm.trans hi9) (hk_ne j hj 3 (by decide) hne)
    rw [hcase_3 hno] at hrun
    refine lv_lookup (x := hsS f1 (a - b)) (off := 128) (tgt := 145) hx hb dX1_houseLine_17 (by decide) (by rw [c3]; decide) (by decide) ?_
    refine lv_aload_n hx hb dX1_houseLine_145 rfl (lv_at hl 1 rfl) ?_
    refine va_ldcS hx hb hown (sr3 hStr hz) dX1_houseLine_146 ?_
    have hne := zneS hStr hz (i := 3) (by decide) hAq
    refine cRV (As := [.ref (adK 3)]) (ci := 17) ⟨hx, hb, hml, hown, hts⟩ hOK hz hS (hP.sub (ws' := (strC k q v1 (a - b) h9 z9 f1)) [12, 13] rfl) ((mtJ5_eqCS l D k Z hOK (fun A U H h => (hStr A U H h).2.2.1) (adK 3) (adV 3) (stL 3) (stC 3) (stN_l 3 (by decide)) q v1 (a - b) f1 hab h9 z9 hne).mono (fun A U H h => ⟨h, (hStr A U H h).1.1 3 (by decide)⟩)) (kJ5_equals hts q1203 rfl rfl ⟨Nat.le_of_ble_eq_true rfl, Nat.le_of_ble_eq_true rfl⟩) 0 rfl rfl rfl hl.1 rfl (lv_room (Nat.le_of_ble_eq_true rfl)) ⟨Nat.le_of_ble_eq_true rfl, Nat.le_of_ble_eq_true rfl⟩ dX1_houseLine_148 ?_
    rw [wdIs_of hwd hf1]
    have hP := zdropP (x := ((cH k ah aw adr aim ard asc ath awl alo atr sh) ++ ((cW k au su) ++ (cR k ard s1)))) (y := (strC k q v1 (a - b) h9 z9 f1)) hP
    have hD := zdropD (x := ((cH k ah aw adr aim ard asc ath awl alo atr sh) ++ ((cW k au su) ++ (cR k ard s1)))) (y := (strC k q v1 (a - b) h9 z9 f1)) hD
    cases hv : wdIs s1 3 with
    | true =>
      rw [if_pos hv] at hrun
      refine lv_if_eq (tgt := 235) hx hb dX1_houseLine_151 (by decide) (fun c9 => absurd c9 (by decide)) (fun _ => ?_)
      refine lv_iconst (v := (3 : Int32)) hx hb dX1_houseLine_154 (by decide) ?_
      refine lv_istore (lv' := [(4, .int (3 : Int32)), (3, .ref q), (2, .ref (ard 0)), (0, .ref (ah 0)), (1, .ref (au 0))]) hx hb dX1_houseLine_155 hl (by decide) rfl (fun ls hl => ?_)
      refine lv_goto (tgt := 235) hx hb dX1_houseLine_157 (by decide) ?_
      exact wtX1_houseLine l D k ah aw adr aim ard asc ath awl alo atr au Z hOK hlt hTh hStr hPv sh su s1 ((3 : Int32)) o hrun p e s m args below meth c A hE9 hnoh hA hz H locs hP hD hS ls (lv_sub hl [3, 4, 2, 0] rfl)
    | false =>
      rw [if_neg (by rw [hv]; decide)] at hrun
      refine lv_if_eq (tgt := 235) hx hb dX1_houseLine_151 (by decide) (fun _ => ?_) (fun c9 => absurd rfl c9)
      exact wtX1_houseLine l D k ah aw adr aim ard asc ath awl alo atr au Z hOK hlt hTh hStr hPv sh su s1 (-1) o hrun p e s m args below meth c A hE9 hnoh hA hz H locs hP hD hS ls (lv_sub hl [3, 4, 2, 0] rfl)
  by_cases c4 : hsS f1 (a - b) = (3287941 : Int32)
  · have hi9 : hsS f1 (a - b) = hkey 4 := c4.trans kv4.symm
    have hno : ∀ j, j < 9 → j ≠ 4 → wdIs s1 j = false := fun j hj hne => by
      cases h7 : wdIs s1 j with
      | false => rfl
      | true => exact absurd ((hx9 j h7).symm.trans hi9) (hk_ne j hj 4 (by decide) hne)
    rw [hcase_4 hno] at hrun
    refine lv_lookup (x := hsS f1 (a - b)) (off := 143) (tgt := 160) hx hb dX1_houseLine_17 (by decide) (by rw [c4]; decide) (by decide) ?_
    refine lv_aload_n hx hb dX1_houseLine_160 rfl (lv_at hl 1 rfl) ?_
    refine va_ldcS hx hb hown (sr4 hStr hz) dX1_houseLine_161 ?_
    have hne := zneS hStr hz (i := 4) (by decide) hAq
    refine cRV (As := [.ref (adK 4)]) (ci := 17) ⟨hx, hb, hml, hown, hts⟩ hOK hz hS (hP.sub (ws' := (strC k q v1 (a - b) h9 z9 f1)) [12, 13] rfl) ((mtJ5_eqCS l D k Z hOK (fun A U H h => (hStr A U H h).2.2.1) (adK 4) (adV 4) (stL 4) (stC 4) (stN_l 4 (by decide)) q v1 (a - b) f1 hab h9 z9 hne).mono (fun A U H h => ⟨h, (hStr A U H h).1.1 4 (by decide)⟩)) (kJ5_equals hts q1203 rfl rfl ⟨Nat.le_of_ble_eq_true rfl, Nat.le_of_ble_eq_true rfl⟩) 0 rfl rfl rfl hl.1 rfl (lv_room (Nat.le_of_ble_eq_true rfl)) ⟨Nat.le_of_ble_eq_true rfl, Nat.le_of_ble_eq_true rfl⟩ dX1_houseLine_163 ?_
    rw [wdIs_of hwd hf1]
    have hP := zdropP (x := ((cH k ah aw adr aim ard asc ath awl alo atr sh) ++ ((cW k au su) ++ (cR k ard s1)))) (y := (strC k q v1 (a - b) h9 z9 f1)) hP
    have hD := zdropD (x := ((cH k ah aw adr aim ard asc ath awl alo atr sh) ++ ((cW k au su) ++ (cR k ard s1)))) (y := (strC k q v1 (a - b) h9 z9 f1)) hD
    cases hv : wdIs s1 4 with
    | true =>
      rw [if_pos hv] at hrun
      refine lv_if_eq (tgt := 235) hx hb dX1_houseLine_166 (by decide) (fun c9 => absurd c9 (by decide)) (fun _ => ?_)
      refine lv_iconst (v := (4 : Int32)) hx hb dX1_houseLine_169 (by decide) ?_
      refine lv_istore (lv' := [(4, .int (4 : Int32)), (3, .ref q), (2, .ref (ard 0)), (0, .ref (ah 0)), (1, .ref (au 0))]) hx hb dX1_houseLine_170 hl (by decide) rfl (fun ls hl => ?_)
      refine lv_goto (tgt := 235) hx hb dX1_houseLine_172 (by decide) ?_
      exact wtX1_houseLine l D k ah aw adr aim ard asc ath awl alo atr au Z hOK hlt hTh hStr hPv sh su s1 ((4 : Int32)) o hrun p e s m args below meth c A hE9 hnoh hA hz H locs hP hD hS ls (lv_sub hl [3, 4, 2, 0] rfl)
    | false =>
      rw [if_neg (by rw [hv]; decide)] at hrun
      refine lv_if_eq (tgt := 235) hx hb dX1_houseLine_166 (by decide) (fun _ => ?_) (fun c9 => absurd rfl c9)
      exact wtX1_houseLine l D k ah aw adr aim ard asc ath awl alo atr au Z hOK hlt hTh hStr hPv sh su s1 (-1) o hrun p e s m args below meth c A hE9 hnoh hA hz H locs hP hD hS ls (lv_sub hl [3, 4, 2, 0] rfl)
  by_cases c5 : hsS f1 (a - b) = (-1081272139 : Int32)
  · have hi9 : hsS f1 (a - b) = hkey 5 := c5.trans kv5.symm
    have hno : ∀ j, j < 9 → j ≠ 5 → wdIs s1 j = false := fun j hj hne => by
      cases h7 : wdIs s1 j with
      | false => rfl
      | true => exact absurd ((hx9 j h7).symm.trans hi9) (hk_ne j hj 5 (by decide) hne)
    rw [hcase_5 hno] at hrun
    refine lv_lookup (x := hsS f1 (a - b)) (off := 158) (tgt := 175) hx hb dX1_houseLine_17 (by decide) (by rw [c5]; decide) (by decide) ?_
    refine lv_aload_n hx hb dX1_houseLine_175 rfl (lv_at hl 1 rfl) ?_
    refine va_ldcS hx hb hown (sr5 hStr hz) dX1_houseLine_176 ?_
    have hne := zneS hStr hz (i := 5) (by decide) hAq
    refine cRV (As := [.ref (adK 5)]) (ci := 17) ⟨hx, hb, hml, hown, hts⟩ hOK hz hS (hP.sub (ws' := (strC k q v1 (a - b) h9 z9 f1)) [12, 13] rfl) ((mtJ5_eqCS l D k Z hOK (fun A U H h => (hStr A U H h).2.2.1) (adK 5) (adV 5) (stL 5) (stC 5) (stN_l 5 (by decide)) q v1 (a - b) f1 hab h9 z9 hne).mono (fun A U H h => ⟨h, (hStr A U H h).1.1 5 (by decide)⟩)) (kJ5_equals hts q1203 rfl rfl ⟨Nat.le_of_ble_eq_true rfl, Nat.le_of_ble_eq_true rfl⟩) 0 rfl rfl rfl hl.1 rfl (lv_room (Nat.le_of_ble_eq_true rfl)) ⟨Nat.le_of_ble_eq_true rfl, Nat.le_of_ble_eq_true rfl⟩ dX1_houseLine_178 ?_
    rw [wdIs_of hwd hf1]
    have hP := zdropP (x := ((cH k ah aw adr aim ard asc ath awl alo atr sh) ++ ((cW k au su) ++ (cR k ard s1)))) (y := (strC k q v1 (a - b) h9 z9 f1)) hP
    have hD := zdropD (x := ((cH k ah aw adr aim ard asc ath awl alo atr sh) ++ ((cW k au su) ++ (cR k ard s1)))) (y := (strC k q v1 (a - b) h9 z9 f1)) hD
    cases hv : wdIs s1 5 with
    | true =>
      rw [if_pos hv] at hrun
      refine lv_if_eq (tgt := 235) hx hb dX1_houseLine_181 (by decide) (fun c9 => absurd c9 (by decide)) (fun _ => ?_)
      refine lv_iconst (v := (5 : Int32)) hx hb dX1_houseLine_184 (by decide) ?_
      refine lv_istore (lv' := [(4, .int (5 : Int32)), (3, .ref q), (2, .ref (ard 0)), (0, .ref (ah 0)), (1, .ref (au 0))]) hx hb dX1_houseLine_185 hl (by decide) rfl (fun ls hl => ?_)
      refine lv_goto (tgt := 235) hx hb dX1_houseLine_187 (by decide) ?_
      exact wtX1_houseLine l D k ah aw adr aim ard asc ath awl alo atr au Z hOK hlt hTh hStr hPv sh su s1 ((5 : Int32)) o hrun p e s m args below meth c A hE9 hnoh hA hz H locs hP hD hS ls (lv_sub hl [3, 4, 2, 0] rfl)
    | false =>
      rw [if_neg (by rw [hv]; decide)] at hrun
      refine lv_if_eq (tgt := 235) hx hb dX1_houseLine_181 (by decide) (fun _ => ?_) (fun c9 => absurd rfl c9)
      exact wtX1_houseLine l D k ah aw adr aim ard asc ath awl alo atr au Z hOK hlt hTh hStr hPv sh su s1 (-1) o hrun p e s m args below meth c A hE9 hnoh hA hz H locs hP hD hS ls (lv_sub hl [3, 4, 2, 0] rfl)
  by_cases c6 : hsS f1 (a - b) = (-892070738 : Int32)
  · have hi9 : hsS f1 (a - b) = hkey 6 := c6.trans kv6.symm
    have hno : ∀ j, j < 9 → j ≠ 6 → wdIs s1 j = false := fun j hj hne => by
      cases h7 : wdIs s1 j with
      | false => rfl
      | true => exact absurd ((hx9 j h7).symm.trans hi9) (hk_ne j hj 6 (by decide) hne)
    rw [hcase_6 hno] at hrun
    refine lv_lookup (x := hsS f1 (a - b)) (off := 173) (tgt := 190) hx hb dX1_houseLine_17 (by decide) (by rw [c6]; decide) (by decide) ?_
    refine lv_aload_n hx hb dX1_houseLine_190 rfl (lv_at hl 1 rfl) ?_
    refine va_ldcS hx hb hown (sr6 hStr hz) dX1_houseLine_191 ?_
    have hne := zneS hStr hz (i := 6) (by decide) hAq
    refine cRV (As := [.ref (adK 6)]) (ci := 17) ⟨hx, hb, hml, hown, hts⟩ hOK hz hS (hP.sub (ws' := (strC k q v1 (a - b) h9 z9 f1)) [12, 13] rfl) ((mtJ5_eqCS l D k Z hOK (fun A U H h => (hStr A U H h).2.2.1) (adK 6) (adV 6) (stL 6) (stC 6) (stN_l 6 (by decide)) q v1 (a - b) f1 hab h9 z9 hne).mono (fun A U H h => ⟨h, (hStr A U H h).1.1 6 (by decide)⟩)) (kJ5_equals hts q1203 rfl rfl ⟨Nat.le_of_ble_eq_true rfl, Nat.le_of_ble_eq_true rfl⟩) 0 rfl rfl rfl hl.1 rfl (lv_room (Nat.le_of_ble_eq_true rfl)) ⟨Nat.le_of_ble_eq_true rfl, Nat.le_of_ble_eq_true rfl⟩ dX1_houseLine_193 ?_
    rw [wdIs_of hwd hf1]
    have hP := zdropP (x := ((cH k ah aw adr aim ard asc ath awl alo atr sh) ++ ((cW k au su) ++ (cR k ard s1)))) (y := (strC k q v1 (a - b) h9 z9 f1)) hP
    have hD := zdropD (x := ((cH k ah aw adr aim ard asc ath awl alo atr sh) ++ ((cW k au su) ++ (cR k ard s1)))) (y := (strC k q v1 (a - b) h9 z9 f1)) hD
    cases hv : wdIs s1 6 with
    | true =>
      rw [if_pos hv] at hrun
      refine lv_if_eq (tgt := 235) hx hb dX1_houseLine_196 (by decide) (fun c9 => absurd c9 (by decide)) (fun _ => ?_)
      refine lv_bipush (v := (6 : Int32)) hx hb dX1_houseLine_199 (by decide) ?_
      refine lv_istore (lv' := [(4, .int (6 : Int32)), (3, .ref q), (2, .ref (ard 0)), (0, .ref (ah 0)), (1, .ref (au 0))]) hx hb dX1_houseLine_201 hl (by decide) rfl (fun ls hl => ?_)
      refine lv_goto (tgt := 235) hx hb dX1_houseLine_203 (by decide) ?_
      exact wtX1_houseLine l D k ah aw adr aim ard asc ath awl alo atr au Z hOK hlt hTh hStr hPv sh su s1 ((6 : Int32)) o hrun p e s m args below meth c A hE9 hnoh hA hz H locs hP hD hS ls (lv_sub hl [3, 4, 2, 0] rfl)
    | false =>
      rw [if_neg (by rw [hv]; decide)] at hrun
      refine lv_if_eq (tgt := 235) hx hb dX1_houseLine_196 (by decide) (fun _ => ?_) (fun c9 => absurd rfl c9)
      exact wtX1_houseLine l D k ah aw adr aim ard asc ath awl alo atr au Z hOK hlt hTh hStr hPv sh su s1 (-1) o hrun p e s m args below meth c A hE9 hnoh hA hz H locs hP hD hS ls (lv_sub hl [3, 4, 2, 0] rfl)
  by_cases c7 : hsS f1 (a - b) = (3029824 : Int32)
  · have hi9 : hsS f1 (a - b) = hkey 7 := c7.trans kv7.symm
    have hno : ∀ j, j < 9 → j ≠ 7 → wdIs s1 j = false := fun j hj hne => by
      cases h7 : wdIs s1 j with
      | false => rfl
      | true => exact absurd ((hx9 j h7).symm.trans hi9) (hk_ne j hj 7 (by decide) hne)
    rw [hcase_7 hno] at hrun
    refine lv_lookup (x := hsS f1 (a - b)) (off := 189) (tgt := 206) hx hb dX1_houseLine_17 (by decide) (by rw [c7]; decide) (by decide) ?_
    refine lv_aload_n hx hb dX1_houseLine_206 rfl (lv_at hl 1 rfl) ?_
    refine va_ldcS hx hb hown (sr7 hStr hz) dX1_houseLine_207 ?_
    have hne := zneS hStr hz (i := 7) (by decide) hAq
    refine cRV (As := [.ref (adK 7)]) (ci := 17) ⟨hx, hb, hml, hown, hts⟩ hOK hz hS (hP.sub (ws' := (strC k q v1 (a - b) h9 z9 f1)) [12, 13] rfl) ((mtJ5_eqCS l D k Z hOK (fun A U H h => (hStr A U H h).2.2.1) (adK 7) (adV 7) (stL 7) (stC 7) (stN_l 7 (by decide)) q v1 (a - b) f1 hab h9 z9 hne).mono (fun A U H h => ⟨h, (hStr A U H h).1.1 7 (by decide)⟩)) (kJ5_equals hts q1203 rfl rfl ⟨Nat.le_of_ble_eq_true rfl, Nat.le_of_ble_eq_true rfl⟩) 0 rfl rfl rfl hl.1 rfl (lv_room (Nat.le_of_ble_eq_true rfl)) ⟨Nat.le_of_ble_eq_true rfl, Nat.le_of_ble_eq_true rfl⟩ dX1_houseLine_209 ?_
    rw [wdIs_of hwd hf1]
    have hP := zdropP (x := ((cH k ah aw adr aim ard asc ath awl alo atr sh) ++ ((cW k au su) ++ (cR k ard s1)))) (y := (strC k q v1 (a - b) h9 z9 f1)) hP
    have hD := zdropD (x := ((cH k ah aw adr aim ard asc ath awl alo atr sh) ++ ((cW k au su) ++ (cR k ard s1)))) (y := (strC k q v1 (a - b) h9 z9 f1)) hD
    cases hv : wdIs s1 7 with
    | true =>
      rw [if_pos hv] at hrun
      refine lv_if_eq (tgt := 235) hx hb dX1_houseLine_212 (by decide) (fun c9 => absurd c9 (by decide)) (fun _ => ?_)
      refine lv_bipush (v := (7 : Int32)) hx hb dX1_houseLine_215 (by decide) ?_
      refine lv_istore (lv' := [(4, .int (7 : Int32)), (3, .ref q), (2, .ref (ard 0)), (0, .ref (ah 0)), (1, .ref (au 0))]) hx hb dX1_houseLine_217 hl (by decide) rfl (fun ls hl => ?_)
      refine lv_goto (tgt := 235) hx hb dX1_houseLine_219 (by decide) ?_
      exact wtX1_houseLine l D k ah aw adr aim ard asc ath awl alo atr au Z hOK hlt hTh hStr hPv sh su s1 ((7 : Int32)) o hrun p e s m args below meth c A hE9 hnoh hA hz H locs hP hD hS ls (lv_sub hl [3, 4, 2, 0] rfl)
    | false =>
      rw [if_neg (by rw [hv]; decide)] at hrun
      refine lv_if_eq (tgt := 235) hx hb dX1_houseLine_212 (by decide) (fun _ => ?_) (fun c9 => absurd rfl c9)
      exact wtX1_houseLine l D k ah aw adr aim ard asc ath awl alo atr au Z hOK hlt hTh hStr hPv sh su s1 (-1) o hrun p e s m args below meth c A hE9 hnoh hA hz H locs hP hD hS ls (lv_sub hl [3, 4, 2, 0] rfl)
  by_cases c8 : hsS f1 (a - b) = (99228 : Int32)
  · have hi9 : hsS f1 (a - b) = hkey 8 := c8.trans kv8.symm
    have hno : ∀ j, j < 9 → j ≠ 8 → wdIs s1 j = false := fun j hj hne => by
      cases h7 : wdIs s1 j with
      | false => rfl
      | true => exact absurd ((hx9 j h7).symm.trans hi9) (hk_ne j hj 8 (by decide) hne)
    rw [hcase_8 hno] at hrun
    refine lv_lookup (x := hsS f1 (a - b)) (off := 205) (tgt := 222) hx hb dX1_houseLine_17 (by decide) (by rw [c8]; decide) (by decide) ?_
    refine lv_aload_n hx hb dX1_houseLine_222 rfl (lv_at hl 1 rfl) ?_
    refine va_ldcS hx hb hown (sr8 hStr hz) dX1_houseLine_223 ?_
    have hne := zneS hStr hz (i := 8) (by decide) hAq
    refine cRV (As := [.ref (adK 8)]) (ci := 17) ⟨hx, hb, hml, hown, hts⟩ hOK hz hS (hP.sub (ws' := (strC k q v1 (a - b) h9 z9 f1)) [12, 13] rfl) ((mtJ5_eqCS l D k Z hOK (fun A U H h => (hStr A U H h).2.2.1) (adK 8) (adV 8) (stL 8) (stC 8) (stN_l 8 (by decide)) q v1 (a - b) f1 hab h9 z9 hne).mono (fun A U H h => ⟨h, (hStr A U H h).1.1 8 (by decide)⟩)) (kJ5_equals hts q1203 rfl rfl ⟨Nat.le_of_ble_eq_true rfl, Nat.le_of_ble_eq_true rfl⟩) 0 rfl rfl rfl hl.1 rfl (lv_room (Nat.le_of_ble_eq_true rfl)) ⟨Nat.le_of_ble_eq_true rfl, Nat.le_of_ble_eq_true rfl⟩ dX1_houseLine_225 ?_
    rw [wdIs_of hwd hf1]
    have hP := zdropP (x := ((cH k ah aw adr aim ard asc ath awl alo atr sh) ++ ((cW k au su) ++ (cR k ard s1)))) (y := (strC k q v1 (a - b) h9 z9 f1)) hP
    have hD := zdropD (x := ((cH k ah aw adr aim ard asc ath awl alo atr sh) ++ ((cW k au su) ++ (cR k ard s1)))) (y := (strC k q v1 (a - b) h9 z9 f1)) hD
    cases hv : wdIs s1 8 with
    | true =>
      rw [if_pos hv] at hrun
      refine lv_if_eq (tgt := 235) hx hb dX1_houseLine_228 (by decide) (fun c9 => absurd c9 (by decide)) (fun _ => ?_)
      refine lv_bipush (v := (8 : Int32)) hx hb dX1_houseLine_231 (by decide) ?_
      refine lv_istore (lv' := [(4, .int (8 : Int32)), (3, .ref q), (2, .ref (ard 0)), (0, .ref (ah 0)), (1, .ref (au 0))]) hx hb dX1_houseLine_233 hl (by decide) rfl (fun ls hl => ?_)
      exact wtX1_houseLine l D k ah aw adr aim ard asc ath awl alo atr au Z hOK hlt hTh hStr hPv sh su s1 ((8 : Int32)) o hrun p e s m args below meth c A hE9 hnoh hA hz H locs hP hD hS ls (lv_sub hl [3, 4, 2, 0] rfl)
    | false =>
      rw [if_neg (by rw [hv]; decide)] at hrun
      refine lv_if_eq (tgt := 235) hx hb dX1_houseLine_228 (by decide) (fun _ => ?_) (fun c9 => absurd rfl c9)
      exact wtX1_houseLine l D k ah aw adr aim ard asc ath awl alo atr au Z hOK hlt hTh hStr hPv sh su s1 (-1) o hrun p e s m args below meth c A hE9 hnoh hA hz H locs hP hD hS ls (lv_sub hl [3, 4, 2, 0] rfl)
  have hno : ∀ j, j < 9 → wdIs s1 j = false := fun j hj => by
    cases h7 : wdIs s1 j with
    | false => rfl
    | true =>
      exfalso
      have h8 := hx9 j h7
      rcases (show j = 0 ∨ j = 1 ∨ j = 2 ∨ j = 3 ∨ j = 4 ∨ j = 5 ∨ j = 6 ∨ j = 7 ∨ j = 8 by omega) with rfl | rfl | rfl | rfl | rfl | rfl | rfl | rfl | rfl
      · exact c0 (h8.trans kv0)
      · exact c1 (h8.trans kv1)
      · exact c2 (h8.trans kv2)
      · exact c3 (h8.trans kv3)
      · exact c4 (h8.trans kv4)
      · exact c5 (h8.trans kv5)
      · exact c6 (h8.trans kv6)
      · exact c7 (h8.trans kv7)
      · exact c8 (h8.trans kv8)
  rw [hcase_n hno] at hrun
  refine lv_lookup (x := hsS f1 (a - b)) (off := 218) (tgt := 235) hx hb dX1_houseLine_17 (by decide) (by simp only [Op.lookupswitch.offset_cons, Op.lookupswitch.offset_nil]; rw [if_neg (neI (n := -1081272139) c5 (by decide)), if_neg (neI (n := -892070738) c6 (by decide)), if_neg (neI (n := 99228) c8 (by decide)), if_neg (neI (n := 3016435) c2 (by decide)), if_neg (neI (n := 3029824) c7 (by decide)), if_neg (neI (n := 3208384) c1 (by decide)), if_neg (neI (n := 3287941) c4 (by decide)), if_neg (neI (n := 98708952) c0 (by decide)), if_neg (neI (n := 109407362) c3 (by decide))]) (by decide) ?_
  have hP := zdropP (x := ((cH k ah aw adr aim ard asc ath awl alo atr sh) ++ ((cW k au su) ++ (cR k ard s1)))) (y := (strC k q v1 (a - b) h9 z9 f1)) hP
  have hD := zdropD (x := ((cH k ah aw adr aim ard asc ath awl alo atr sh) ++ ((cW k au su) ++ (cR k ard s1)))) (y := (strC k q v1 (a - b) h9 z9 f1)) hD
  exact wtX1_houseLine l D k ah aw adr aim ard asc ath awl alo atr au Z hOK hlt hTh hStr hPv sh su s1 (-1) o hrun p e s m args below meth c A hE9 hnoh hA hz H locs hP hD hS ls (lv_sub hl [3, 4, 2, 0] rfl)
