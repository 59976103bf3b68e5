/-! LAW -/
noncomputable def lawO (sh : Kp) (o1 : txO) : Option txO := mox (some o1) (fun E => mstr E.1 "SaturdayKeep$Wrong" <| mox (fX1_fails sh E.2) (fun X => some (.inl (X.1, X.2))) fun _ => none) fun q => some (.inr (q.1, rd_s_fault q.2 (-1 : Int32)))
abbrev hhX1_law : List (Nat × Nat × Nat × Nat) := [(7, 26, 29, 208)]
def rX1_law (r0 : Rd) (o1 : txO) : Room := rLs 35 (prc 50 15 r0 o1) (prc 5500 1632 r0 o1) 1220
theorem kX1_law {R : Room} {s : State} {args : Array Value} {own : String} {idx mc ms : Nat} {rm : Room} (hts : ∀ w ∈ lw_all, w.before args s = true) (hl : Cond.methodLink own idx yX1_law ∈ lw_all) (hrc : rm.cells = mc) (hrs : rm.slots = ms) (hR : rm.frames + 1 ≤ R.frames ∧ 8 + (2 + 11) + rm.locals ≤ R.locals) : vx_CVW R s args own RX1 idx yX1_law cX1_law 2 (some .int) hhX1_law (wsW_ yX1_law cX1_law 2 (some .int) hhX1_law) rm mc ms 0 :=
  vx_cwVW 0 hts (lw_VW hl q1300 q1301 q107 q1302) rfl hrc hrs (by decide +kernel) hR
set_option maxRecDepth 100000 in
theorem mtX1_law (l : Launch) (D : va_G) (k : Nat → ClassId) (ah aw adr aim ard asc ath awl alo atr : Nat → Nat) (Z : zZ) (hOK6 : zOK D zCl (zTy6 k) Z) (hlt : l.stackTraces = false) (hTh : zTh Z) {adK adV : Nat → Nat} (hStr : zStr Z adK adV) (hPv : zPv Z) {e0 mi : Nat} (hLs : zLs Z e0 mi) {aF : Nat → Nat} {vq : Nat} (hVl : zVl k Z aF adK vq) (sh : Kp) (us : List Wd) (w0 : va_W) (hw : wlP k e0 (awl 0) us w0) (sw : Wd) (srd r0 : Rd) (h0 : fX3_begins srd = some r0) (o1 : txO) (h1 : fX1_lawText sh r0 = some o1) (o : txO) (hrun : lawO sh o1 = some o) : CtXH l yX1_law cX1_law 2 (some .int) hhX1_law (rX1_law r0 o1) Z D zCl ((cH k ah aw adr aim ard asc ath awl alo atr sh) ++ ((cW k aw sw) ++ ((cR k ard srd) ++ w0))) [.ref (ah 0)] (fun r' w' => ∃ (T : va_W) (gs : List (Sc → Int32)) (ord : Rd) (q : Nat) (np : va_W), wlP k e0 (awl 0) [] T ∧ o = .inr (gs, ord) ∧ lwAt k e0 aF np 15 q gs.length (sumV gs) ∧ r' = some (.int (nI gs.length)) ∧ w' = ((cH k ah aw adr aim ard asc ath awl alo atr sh) ++ ((cW k aw (wd_s_law sw (some q))) ++ ((cR k ard ord) ++ (T ++ np))))) (fun E' w' => ∃ ord : Rd, o = .inl (E', ord) ∧ w' = ((cH k ah aw adr aim ard asc ath awl alo atr sh) ++ ((cW k aw sw) ++ ((cR k ard ord) ++ w0)))) (prc 50 15 r0 o1) (prc 5500 1632 r0 o1) := by
  have hOK := zOK6 hOK6
  refine CtXH.of (by decide) (Nat.le_of_ble_eq_true rfl) ?_
  intro p e9 s m args below meth c A hE htab hA hP hD hS hz ls hl
  obtain ⟨hx, hb, hr, hml, hown, hts, hlocks, hname⟩ := hE
  have hown : s.vm.findClass RX1 = some m.cls := hown
  have hK := hOK.1 _ _ _ hz
  have hN := hOK.2.1 _ _ _ hz
  have hl : lv_has ls 2 [(0, .ref (ah 0))] := hl
  unfold lawO at hrun
  refine lv_aload_n hx hb dX1_law_0 rfl (lv_at hl 0 rfl) ?_
  refine va_get (ci := 1) (v := .ref (ard 0)) (C := RX1) (T := TX1) (N := 10) hx hb hts in_X1 hown hK hP 0 rfl rfl 4 (by decide) (hts _ q375) (fun _ h9 => h9) rfl dX1_law_1 ?_
  have hP : va_P D zCl (zcat [(cH k ah aw adr aim ard asc ath awl alo atr sh), (cW k aw sw), (cR k ard srd), w0]) _ := hP
  have hD : va_D A (zcat [(cH k ah aw adr aim ard asc ath awl alo atr sh), (cW k aw sw), (cR k ard srd), w0]) := hD
  have hP := zsP [(cH k ah aw adr aim ard asc ath awl alo atr sh), (cW k aw sw), (cR k ard srd), w0] 4 [0, 1, 3] [2] hP rfl (by decide)
  have hD := zsD [(cH k ah aw adr aim ard asc ath awl alo atr sh), (cW k aw sw), (cR k ard srd), w0] 4 [0, 1, 3] [2] hD rfl (by decide)
  have hP : va_P D zCl (((cH k ah aw adr aim ard asc ath awl alo atr sh) ++ ((cW k aw sw) ++ w0)) ++ (cR k ard srd)) _ := hP
  have hD : va_D A (((cH k ah aw adr aim ard asc ath awl alo atr sh) ++ ((cW k aw sw) ++ w0)) ++ (cR k ard srd)) := hD
  refine cWVP ((cH k ah aw adr aim ard asc ath awl alo atr sh) ++ ((cW k aw sw) ++ w0)) (cR k ard srd) (As := []) (ci := 3) ⟨hx, hb, hml, hown, hts⟩ hOK hz hS hA hP hD (mtX3_begins l D k ard Z hOK srd r0 h0) (kX3_begins hts q759 rfl rfl ⟨Nat.le_of_ble_eq_true rfl, Nat.le_of_ble_eq_true rfl⟩) 0 rfl rfl rfl hl.1 rfl (lv_room (Nat.le_of_ble_eq_true rfl)) ⟨(by simp only [rX1_law, rLs, prc]; omega), (by simp only [rX1_law, rLs, prc]; omega)⟩ dX1_law_4 (fun r_ w_ H locs hq hP hD hS => ?_)
  obtain ⟨rfl, rfl⟩ := hq
  have hP : va_P D zCl (((cH k ah aw adr aim ard asc ath awl alo atr sh) ++ ((cW k aw sw) ++ w0)) ++ (cR k ard r0)) _ := hP
  have hD : va_D A (((cH k ah aw adr aim ard asc ath awl alo atr sh) ++ ((cW k aw sw) ++ w0)) ++ (cR k ard r0)) := hD
  have hP := zjP [(cH k ah aw adr aim ard asc ath awl alo atr sh), (cW k aw sw), w0] [(cR k ard r0)] hP
  have hD := zjD [(cH k ah aw adr aim ard asc ath awl alo atr sh), (cW k aw sw), w0] [(cR k ard r0)] hD
  have hP := zbP [(cH k ah aw adr aim ard asc ath awl alo atr sh), (cW k aw sw), w0, (cR k ard r0)] 4 [0, 1, 3, 2] hP rfl (by decide)
  have hD := zbD [(cH k ah aw adr aim ard asc ath awl alo atr sh), (cW k aw sw), w0, (cR k ard r0)] 4 [0, 1, 3, 2] hD rfl (by decide)
  have hP : va_P D zCl ((cH k ah aw adr aim ard asc ath awl alo atr sh) ++ ((cW k aw sw) ++ ((cR k ard r0) ++ w0))) _ := hP
  have hD : va_D A ((cH k ah aw adr aim ard asc ath awl alo atr sh) ++ ((cW k aw sw) ++ ((cR k ard r0) ++ w0))) := hD
  refine lv_aload_n hx hb dX1_law_7 rfl (lv_at hl 0 rfl) ?_
  refine va_get (ci := 1) (v := .ref (aw 0)) (C := RX1) (T := TX1) (N := 10) hx hb hts in_X1 hown hK hP 0 rfl rfl 0 (by decide) (hts _ q370) (fun _ h9 => h9) rfl dX1_law_8 ?_
  refine lv_aload_n hx hb dX1_law_11 rfl (lv_at hl 0 rfl) ?_
  have hP : va_P D zCl (zcat [(cH k ah aw adr aim ard asc ath awl alo atr sh), (cW k aw sw), (cR k ard r0), w0]) _ := hP
  have hD : va_D A (zcat [(cH k ah aw adr aim ard asc ath awl alo atr sh), (cW k aw sw), (cR k ard r0), w0]) := hD
  have hP := zsP [(cH k ah aw adr aim ard asc ath awl alo atr sh), (cW k aw sw), (cR k ard r0), w0] 4 [0, 2] [1, 3] hP rfl (by decide)
  have hD := zsD [(cH k ah aw adr aim ard asc ath awl alo atr sh), (cW k aw sw), (cR k ard r0), w0] 4 [0, 2] [1, 3] hD rfl (by decide)
  have hP : va_P D zCl (((cH k ah aw adr aim ard asc ath awl alo atr sh) ++ (cR k ard r0)) ++ ((cW k aw sw) ++ w0)) _ := hP
  have hD : va_D A (((cH k ah aw adr aim ard asc ath awl alo atr sh) ++ (cR k ard r0)) ++ ((cW k aw sw) ++ w0)) := hD
  have hP : va_P D zCl ([] ++ (((cH k ah aw adr aim ard asc ath awl alo atr sh) ++ (cR k ard r0)) ++ ((cW k aw sw) ++ w0))) _ := hP
  have hD : va_D A ([] ++ (((cH k ah aw adr aim ard asc ath awl alo atr sh) ++ (cR k ard r0)) ++ ((cW k aw sw) ++ w0))) := hD
  refine cXV [] ((cH k ah aw adr aim ard asc ath awl alo atr sh) ++ (cR k ard r0)) ((cW k aw sw) ++ w0) (As := []) (ci := 1) ⟨hx, hb, hml, hown, hts⟩ hOK hz hS hA hP hD (mtX1_lawText l D k ah aw adr aim ard asc ath awl alo atr Z hOK6 hlt hTh hStr hPv hLs hVl sh r0 o1 h1) (kX1_lawText hts q1303 rfl rfl ⟨Nat.le_of_ble_eq_true rfl, Nat.le_of_ble_eq_true rfl⟩) 0 rfl rfl rfl hl.1 rfl (lv_room (Nat.le_of_ble_eq_true rfl)) ⟨(by simp only [rX1_law, rLs, prc]; omega), (by simp only [rX1_law, rLs, prc]; omega)⟩ dX1_law_12 (fun E_ w_ ce_ q9_ H locs hq hP hD hS hce hcv hcl => ?_) (fun r_ w_ H locs hq hP hD hS => ?_)
  · obtain ⟨r1, rfl, rfl⟩ := hq
    have hrun := moxl hrun
    obtain ⟨hE9, hrun⟩ := mstr_s rfl hrun
    have hE9 : E_ = "SaturdayKeep$Wrong" := hE9
    subst hE9
    obtain ⟨o3, h3, hrun⟩ := mox_s rfl hrun
    have hP : va_P D zCl (((cH k ah aw adr aim ard asc ath awl alo atr sh) ++ (cR k ard r1)) ++ ((cW k aw sw) ++ w0)) _ := hP
    have hD : va_D A (((cH k ah aw adr aim ard asc ath awl alo atr sh) ++ (cR k ard r1)) ++ ((cW k aw sw) ++ w0)) := hD
    have hP := zjP [(cH k ah aw adr aim ard asc ath awl alo atr sh), (cR k ard r1)] [(cW k aw sw), w0] hP
    have hD := zjD [(cH k ah aw adr aim ard asc ath awl alo atr sh), (cR k ard r1)] [(cW k aw sw), w0] hD
    have hP := zbP [(cH k ah aw adr aim ard asc ath awl alo atr sh), (cR k ard r1), (cW k aw sw), w0] 4 [0, 2, 1, 3] hP rfl (by decide)
    have hD := zbD [(cH k ah aw adr aim ard asc ath awl alo atr sh), (cR k ard r1), (cW k aw sw), w0] 4 [0, 2, 1, 3] hD rfl (by decide)
    have hP : va_P D zCl ((cH k ah aw adr aim ard asc ath awl alo atr sh) ++ ((cW k aw sw) ++ ((cR k ard r1) ++ w0))) _ := hP
    have hD : va_D A ((cH k ah aw adr aim ard asc ath awl alo atr sh) ++ ((cW k aw sw) ++ ((cR k ard r1) ++ w0))) := hD
    refine vx_catch (own := RX1) (name := "SaturdayKeep$Wrong") hown [] ⟨7, 26, 29, 208⟩ [] (htab.trans rfl) (fun z hz9 => nomatch hz9) (by decide) (by decide) (hts _ q758) (va_Nw.use rfl (hN _ (zN_of q1119 rfl))) hce hcv hcl ?_
    refine lv_astore_n (lv' := [(1, .ref q9_), (0, .ref (ah 0))]) hx hb dX1_law_29 rfl hl (by decide) rfl (fun ls hl => ?_)
    refine lv_aload_n hx hb dX1_law_30 rfl (lv_at hl 1 rfl) ?_
    have hP : va_P D zCl (zcat [(cH k ah aw adr aim ard asc ath awl alo atr sh), (cW k aw sw), (cR k ard r1), w0]) _ := hP
    have hD : va_D A (zcat [(cH k ah aw adr aim ard asc ath awl alo atr sh), (cW k aw sw), (cR k ard r1), w0]) := hD
    have hP := zsP [(cH k ah aw adr aim ard asc ath awl alo atr sh), (cW k aw sw), (cR k ard r1), w0] 4 [0, 2] [1, 3] hP rfl (by decide)
    have hD := zsD [(cH k ah aw adr aim ard asc ath awl alo atr sh), (cW k aw sw), (cR k ard r1), w0] 4 [0, 2] [1, 3] hD rfl (by decide)
    have hP : va_P D zCl (((cH k ah aw adr aim ard asc ath awl alo atr sh) ++ (cR k ard r1)) ++ ((cW k aw sw) ++ w0)) _ := hP
    have hD : va_D A (((cH k ah aw adr aim ard asc ath awl alo atr sh) ++ (cR k ard r1)) ++ ((cW k aw sw) ++ w0)) := hD
    have hP : va_P D zCl ([] ++ (((cH k ah aw adr aim ard asc ath awl alo atr sh) ++ (cR k ard r1)) ++ ((cW k aw sw) ++ w0))) _ := hP
    have hD : va_D A ([] ++ (((cH k ah aw adr aim ard asc ath awl alo atr sh) ++ (cR k ard r1)) ++ ((cW k aw sw) ++ w0))) := hD
    refine cXV [] ((cH k ah aw adr aim ard asc ath awl alo atr sh) ++ (cR k ard r1)) ((cW k aw sw) ++ w0) (As := []) (ci := 1) ⟨hx, hb, hml, hown, hts⟩ hOK hz hS hA hP hD (mtX1_fails l D k ah aw adr aim ard asc ath awl alo atr Z hOK hlt hTh sh r1 o3 h3) (kX1_fails hts q1266 rfl rfl ⟨Nat.le_of_ble_eq_true rfl, Nat.le_of_ble_eq_true rfl⟩) 0 rfl rfl rfl hl.1 rfl (lv_room (Nat.le_of_ble_eq_true rfl)) ⟨(by simp only [rX1_law, rLs, prc]; omega), (by simp only [rX1_law, rLs, prc]; omega)⟩ dX1_law_31 (fun E_ w_ ce_ q9_ H locs hq hP hD hS hce hcv hcl => ?_) (fun r_ w_ H locs hq hP hD hS => ?_)
    · obtain ⟨r2, rfl, rfl⟩ := hq
      have hrun := moxl hrun
      cases hrun
      have hP : va_P D zCl (((cH k ah aw adr aim ard asc ath awl alo atr sh) ++ (cR k ard r2)) ++ ((cW k aw sw) ++ w0)) _ := hP
      have hD : va_D A (((cH k ah aw adr aim ard asc ath awl alo atr sh) ++ (cR k ard r2)) ++ ((cW k aw sw) ++ w0)) := hD
      have hP := zjP [(cH k ah aw adr aim ard asc ath awl alo atr sh), (cR k ard r2)] [(cW k aw sw), w0] hP
      have hD := zjD [(cH k ah aw adr aim ard asc ath awl alo atr sh), (cR k ard r2)] [(cW k aw sw), w0] hD
      have hP := zbP [(cH k ah aw adr aim ard asc ath awl alo atr sh), (cR k ard r2), (cW k aw sw), w0] 4 [0, 2, 1, 3] hP rfl (by decide)
      have hD := zbD [(cH k ah aw adr aim ard asc ath awl alo atr sh), (cR k ard r2), (cW k aw sw), w0] 4 [0, 2, 1, 3] hD rfl (by decide)
      have hP : va_P D zCl ((cH k ah aw adr aim ard asc ath awl alo atr sh) ++ ((cW k aw sw) ++ ((cR k ard r2) ++ w0))) _ := hP
      have hD : va_D A ((cH k ah aw adr aim ard asc ath awl alo atr sh) ++ ((cW k aw sw) ++ ((cR k ard r2) ++ w0))) := hD
      exact zoutH (by rw [htab]; decide) hlocks hce hcv hcl hP hD hS ⟨_, rfl, rfl⟩ (by simp only [prc]; omega) (by simp only [prc]; omega)
    · obtain ⟨r2, rfl, rfl, rfl⟩ := hq
      exact nomatch (moxr hrun)
  obtain ⟨gs, r1, q, np, rfl, rfl, hlw, rfl⟩ := hq
  have hrun := moxr hrun
  cases hrun
  have hP : va_P D zCl (((cH k ah aw adr aim ard asc ath awl alo atr sh) ++ ((cR k ard r1) ++ np)) ++ ((cW k aw sw) ++ w0)) _ := hP
  have hD : va_D A (((cH k ah aw adr aim ard asc ath awl alo atr sh) ++ ((cR k ard r1) ++ np)) ++ ((cW k aw sw) ++ w0)) := hD
  have hP := zjP [(cH k ah aw adr aim ard asc ath awl alo atr sh), (cR k ard r1), np] [(cW k aw sw), w0] hP
  have hD := zjD [(cH k ah aw adr aim ard asc ath awl alo atr sh), (cR k ard r1), np] [(cW k aw sw), w0] hD
  have hP := zbP [(cH k ah aw adr aim ard asc ath awl alo atr sh), (cR k ard r1), np, (cW k aw sw), w0] 5 [0, 3, 1, 4, 2] hP rfl (by decide)
  have hD := zbD [(cH k ah aw adr aim ard asc ath awl alo atr sh), (cR k ard r1), np, (cW k aw sw), w0] 5 [0, 3, 1, 4, 2] hD rfl (by decide)
  have hP : va_P D zCl ((cH k ah aw adr aim ard asc ath awl alo atr sh) ++ ((cW k aw sw) ++ ((cR k ard r1) ++ (w0 ++ np)))) _ := hP
  have hD : va_D A ((cH k ah aw adr aim ard asc ath awl alo atr sh) ++ ((cW k aw sw) ++ ((cR k ard r1) ++ (w0 ++ np)))) := hD
  refine va_putN (ci := 2) (v := .ref q) (ty := tyX2 20) (C := RX2) (T := TX2) (N := 21) hx hb hts in_X2 tyX2 tyX2_ok nmX2 hown hK hP hD hS 1 rfl rfl 20 (by decide) (va_Nw.use rfl (hN _ (zN_of q208 rfl))) (fun _ h9 => h9) rfl (tyX2_ok 20 (by decide)) rfl rfl (Nat.le_of_ble_eq_true rfl) dX1_law_15 (fun H locs hP hD hS => ?_)
  have hP : va_P D zCl ((cH k ah aw adr aim ard asc ath awl alo atr sh) ++ ((cW k aw (wd_s_law sw (some q))) ++ ((cR k ard r1) ++ (w0 ++ np)))) _ := hP
  have hD : va_D A ((cH k ah aw adr aim ard asc ath awl alo atr sh) ++ ((cW k aw (wd_s_law sw (some q))) ++ ((cR k ard r1) ++ (w0 ++ np)))) := hD
  refine lv_aload_n hx hb dX1_law_18 rfl (lv_at hl 0 rfl) ?_
  refine va_get (ci := 1) (v := .ref (ard 0)) (C := RX1) (T := TX1) (N := 10) hx hb hts in_X1 hown hK hP 0 rfl rfl 4 (by decide) (hts _ q375) (fun _ h9 => h9) rfl dX1_law_19 ?_
  refine lv_iconst (v := (-1 : Int32)) hx hb dX1_law_22 (by decide) ?_
  refine va_putN (ci := 3) (v := .int (-1 : Int32)) (ty := tyX3 5) (C := RX3) (T := TX3) (N := 7) hx hb hts in_X3 tyX3 tyX3_ok nmX3 hown hK hP hD hS 10 rfl rfl 5 (by decide) (va_Nw.use rfl (hN _ (zN_of q269 rfl))) (fun _ h9 => h9) rfl (tyX3_ok 5 (by decide)) rfl rfl (Nat.le_of_ble_eq_true rfl) dX1_law_23 (fun H locs hP hD hS => ?_)
  have hP : va_P D zCl ((cH k ah aw adr aim ard asc ath awl alo atr sh) ++ ((cW k aw (wd_s_law sw (some q))) ++ ((cR k ard (rd_s_fault r1 (-1 : Int32))) ++ (w0 ++ np)))) _ := hP
  have hD : va_D A ((cH k ah aw adr aim ard asc ath awl alo atr sh) ++ ((cW k aw (wd_s_law sw (some q))) ++ ((cR k ard (rd_s_fault r1 (-1 : Int32))) ++ (w0 ++ np)))) := hD
  refine lv_goto (tgt := 34) hx hb dX1_law_26 (by decide) ?_
  refine lv_aload_n hx hb dX1_law_34 rfl (lv_at hl 0 rfl) ?_
  refine va_get (ci := 1) (v := .ref (awl 0)) (C := RX1) (T := TX1) (N := 10) hx hb hts in_X1 hown hK hP 0 rfl rfl 7 (by decide) (hts _ q378) (fun _ h9 => h9) rfl dX1_law_35 ?_
  have hP : va_P D zCl (zcat [(cH k ah aw adr aim ard asc ath awl alo atr sh), (cW k aw (wd_s_law sw (some q))), (cR k ard (rd_s_fault r1 (-1 : Int32))), w0, np]) _ := hP
  have hD : va_D A (zcat [(cH k ah aw adr aim ard asc ath awl alo atr sh), (cW k aw (wd_s_law sw (some q))), (cR k ard (rd_s_fault r1 (-1 : Int32))), w0, np]) := hD
  have hP := zsP [(cH k ah aw adr aim ard asc ath awl alo atr sh), (cW k aw (wd_s_law sw (some q))), (cR k ard (rd_s_fault r1 (-1 : Int32))), w0, np] 5 [0, 1, 2, 4] [3] hP rfl (by decide)
  have hD := zsD [(cH k ah aw adr aim ard asc ath awl alo atr sh), (cW k aw (wd_s_law sw (some q))), (cR k ard (rd_s_fault r1 (-1 : Int32))), w0, np] 5 [0, 1, 2, 4] [3] hD rfl (by decide)
  have hP : va_P D zCl (((cH k ah aw adr aim ard asc ath awl alo atr sh) ++ ((cW k aw (wd_s_law sw (some q))) ++ ((cR k ard (rd_s_fault r1 (-1 : Int32))) ++ np))) ++ w0) _ := hP
  have hD : va_D A (((cH k ah aw adr aim ard asc ath awl alo atr sh) ++ ((cW k aw (wd_s_law sw (some q))) ++ ((cR k ard (rd_s_fault r1 (-1 : Int32))) ++ np))) ++ w0) := hD
  refine cClr ((cH k ah aw adr aim ard asc ath awl alo atr sh) ++ ((cW k aw (wd_s_law sw (some q))) ++ ((cR k ard (rd_s_fault r1 (-1 : Int32))) ++ np))) w0 ⟨hx, hb, hml, hown, hts⟩ hOK hz hS hA hw hP hD (kJ2_clear hts q732 rfl rfl ⟨Nat.le_of_ble_eq_true rfl, Nat.le_of_ble_eq_true rfl⟩) hl.1 (lv_room (Nat.le_of_ble_eq_true rfl)) ⟨(by simp only [rX1_law, rLs, prc]; omega), (by simp only [rX1_law, rLs, prc]; omega)⟩ dX1_law_38 (fun T H locs hT hP hD hS => ?_)
  have hP : va_P D zCl (((cH k ah aw adr aim ard asc ath awl alo atr sh) ++ ((cW k aw (wd_s_law sw (some q))) ++ ((cR k ard (rd_s_fault r1 (-1 : Int32))) ++ np))) ++ T) _ := hP
  have hD : va_D A (((cH k ah aw adr aim ard asc ath awl alo atr sh) ++ ((cW k aw (wd_s_law sw (some q))) ++ ((cR k ard (rd_s_fault r1 (-1 : Int32))) ++ np))) ++ T) := hD
  have hP := zjP [(cH k ah aw adr aim ard asc ath awl alo atr sh), (cW k aw (wd_s_law sw (some q))), (cR k ard (rd_s_fault r1 (-1 : Int32))), np] [T] hP
  have hD := zjD [(cH k ah aw adr aim ard asc ath awl alo atr sh), (cW k aw (wd_s_law sw (some q))), (cR k ard (rd_s_fault r1 (-1 : Int32))), np] [T] hD
  have hP := zbP [(cH k ah aw adr aim ard asc ath awl alo atr sh), (cW k aw (wd_s_law sw (some q))), (cR k ard (rd_s_fault r1 (-1 : Int32))), np, T] 5 [0, 1, 2, 4, 3] hP rfl (by decide)
  have hD := zbD [(cH k ah aw adr aim ard asc ath awl alo atr sh), (cW k aw (wd_s_law sw (some q))), (cR k ard (rd_s_fault r1 (-1 : Int32))), np, T] 5 [0, 1, 2, 4, 3] hD rfl (by decide)
  have hP : va_P D zCl ((cH k ah aw adr aim ard asc ath awl alo atr sh) ++ ((cW k aw (wd_s_law sw (some q))) ++ ((cR k ard (rd_s_fault r1 (-1 : Int32))) ++ (T ++ np)))) _ := hP
  have hD : va_D A ((cH k ah aw adr aim ard asc ath awl alo atr sh) ++ ((cW k aw (wd_s_law sw (some q))) ++ ((cR k ard (rd_s_fault r1 (-1 : Int32))) ++ (T ++ np)))) := hD
  refine lv_aload_n hx hb dX1_law_41 rfl (lv_at hl 0 rfl) ?_
  refine va_get (ci := 1) (v := .ref (aw 0)) (C := RX1) (T := TX1) (N := 10) hx hb hts in_X1 hown hK hP 0 rfl rfl 0 (by decide) (hts _ q370) (fun _ h9 => h9) rfl dX1_law_42 ?_
  refine va_getN (ci := 2) (v := .ref q) (C := RX2) (T := TX2) (N := 21) hx hb hts in_X2 hown hK hP 1 rfl rfl 20 (by decide) (va_Nw.use rfl (hN _ (zN_of q208 rfl))) (fun _ h9 => h9) rfl dX1_law_45 ?_
  have hlw9 := hlw
  obtain ⟨qi, els, gs9, hq1, hli, hn9, hpw, hf9⟩ := hlw
  have hin : ∀ x ∈ np, x ∈ ((cH k ah aw adr aim ard asc ath awl alo atr sh) ++ ((cW k aw (wd_s_law sw (some q))) ++ ((cR k ard (rd_s_fault r1 (-1 : Int32))) ++ (T ++ np)))) := fun x h => List.mem_append_right _ (List.mem_append_right _ (List.mem_append_right _ (List.mem_append_right _ h)))
  obtain ⟨j, hj⟩ := List.getElem?_of_mem (hin _ hq1)
  refine va_getN (ci := 7) (v := .ref qi) (C := RX8) (T := TX8) (N := 1) hx hb hts in_X8 hown hK hP j hj rfl 0 (by decide) (va_Nw.use rfl (hN _ (zN_of q1316 rfl))) (fun _ h9 => h9) rfl dX1_law_48 ?_
  refine zliSize ⟨hx, hb, hml, hown, hts⟩ hOK hz hS hP hin hli q714 ⟨Nat.le_of_ble_eq_true rfl, Nat.le_of_ble_eq_true rfl⟩ hl.1 (lv_room (Nat.le_of_ble_eq_true rfl)) ⟨(by simp only [rX1_law, rLs, prc]; omega), (by simp only [rX1_law, rLs, prc]; omega)⟩ dX1_law_51 ?_
  rw [← hn9]
  refine W.widen (k := prc 50 15 r0 (.inr (gs, r1))) (n := prc 5500 1632 r0 (.inr (gs, r1))) (by simp only [prc]; omega) (by simp only [prc]; omega) ?_
  exact vx_ret (retW_i hx hb hr hlocks hP hD hS ⟨T, gs, _, q, np, hT, rfl, hlw9, rfl, rfl⟩ dX1_law_54)
