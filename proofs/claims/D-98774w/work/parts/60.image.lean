/-! image -/
def rX1_image : Room := { frames := 3, cells := 0, slots := 0, locals := 111 }
noncomputable def fX1_image (sh : Kp) (sw : Wd) (sim : Wd) : Option (Kp × Wd) :=
  mlt (kp_s_hasImage sh true) fun sh_1 =>
  mob (fX2_likens sim sw) fun sim_3 =>
  some (sh_1, sim_3)
theorem kX1_image {R : Room} {s : State} {args : Array Value} {own : String} {idx mc ms : Nat} {rm : Room} (hts : ∀ w ∈ lw_all, w.before args s = true) (hl : Cond.methodLink own idx yX1_image ∈ lw_all) (hrc : rm.cells = mc) (hrs : rm.slots = ms) (hR : rm.frames + 1 ≤ R.frames ∧ 8 + (1 + 11) + rm.locals ≤ R.locals) : CallW R s args own RX1 idx yX1_image cX1_image 1 none (ws_ yX1_image cX1_image 1 none) rm mc ms 0 :=
  cwV 0 hts (lw_V hl q725 q726 q107 q727) rfl hrc hrs (by decide +kernel) hR
set_option maxHeartbeats 4000000 in
set_option maxRecDepth 100000 in
theorem mtX1_image (l : Launch) (D : va_G) (k : Nat → ClassId) (ah : Nat → Nat) (aw : Nat → Nat) (adr : Nat → Nat) (aim : Nat → Nat) (ard : Nat → Nat) (asc : Nat → Nat) (ath : Nat → Nat) (awl : Nat → Nat) (alo : Nat → Nat) (atr : Nat → Nat) (Z : zZ) (hOK : zOK D zCl (zTys k) Z) (sh : Kp) (sw : Wd) (sim : Wd) (oh : Kp) (oim : Wd) (hrun : fX1_image sh sw sim = some (oh, oim)) :
    CtW l yX1_image cX1_image 1 none rX1_image Z D zCl ((cH k ah aw adr aim ard asc ath awl alo atr sh) ++ ((cW k aw sw) ++ (cW k aim sim))) [.ref (ah 0)] (fun r' w' => r' = none ∧ w' = ((cH k ah aw adr aim ard asc ath awl alo atr oh) ++ ((cW k aw sw) ++ (cW k aim oim)))) 0 0 := by
  refine CtW.of (by decide) (Nat.le_of_ble_eq_true rfl) ?_
  intro p e s m args below meth c A hE hA hP hD hS hz ls hl
  obtain ⟨hx, hb, hr, hml, hown, hts, hlocks, hname⟩ := hE
  have hown : s.vm.findClass RX1 = some m.cls := hown
  have hK := hOK.1 _ _ _ hz
  have hN := hOK.2.1 _ _ _ hz
  have hl : lv_has ls 1 [(0, .ref (ah 0))] := hl
  unfold fX1_image at hrun
  refine lv_aload_n hx hb dX1_image_0 rfl (lv_at hl 0 rfl) ?_
  refine lv_iconst (v := (1 : Int32)) hx hb dX1_image_1 (by decide) ?_
  refine va_put (ci := 1) (v := .int (bz true)) (ty := tyX1 3) (C := RX1) (T := TX1) (N := 10) hx hb hts in_X1 tyX1 tyX1_ok nmX1 hown hK hP hD hS 0 rfl rfl 3 (by decide) (hts _ q374) (fun _ h9 => h9) rfl (tyX1_ok 3 (by decide)) (bz_nar _) (bz_fit _) (Nat.le_of_ble_eq_true rfl) dX1_image_2 (fun H locs hP hD hS => ?_)
  have hP : va_P D zCl ((cH k ah aw adr aim ard asc ath awl alo atr (kp_s_hasImage sh true)) ++ ((cW k aw sw) ++ (cW k aim sim))) _ := hP
  have hD : va_D A ((cH k ah aw adr aim ard asc ath awl alo atr (kp_s_hasImage sh true)) ++ ((cW k aw sw) ++ (cW k aim sim))) := hD
  obtain ⟨sh_1, esh_1⟩ : ∃ z : Kp, z = (kp_s_hasImage sh true) := ⟨_, rfl⟩
  rw [← esh_1] at hP hD
  have hrun := mlt_s hrun sh_1 esh_1
  refine lv_aload_n hx hb dX1_image_5 rfl (lv_at hl 0 rfl) ?_
  refine va_get (ci := 1) (v := .ref (aim 0)) (C := RX1) (T := TX1) (N := 10) hx hb hts in_X1 hown hK hP 0 rfl rfl 2 (by decide) (hts _ q373) (fun _ h9 => h9) rfl dX1_image_6 ?_
  refine lv_aload_n hx hb dX1_image_9 rfl (lv_at hl 0 rfl) ?_
  refine va_get (ci := 1) (v := .ref (aw 0)) (C := RX1) (T := TX1) (N := 10) hx hb hts in_X1 hown hK hP 0 rfl rfl 0 (by decide) (hts _ q370) (fun _ h9 => h9) rfl dX1_image_10 ?_
  obtain ⟨sim_3, hc_2, hrun⟩ := mob_s rfl hrun
  have hP := hP.sub (ws' := (((cW k aim sim) ++ (cW k aw sw)) ++ (cH k ah aw adr aim ard asc ath awl alo atr sh_1))) [10, 11, 12, 13, 14, 15, 16, 17, 18, 1, 2, 3, 4, 5, 6, 7, 8, 9, 0] rfl
  have hD := hD.sub (ws' := (((cW k aim sim) ++ (cW k aw sw)) ++ (cH k ah aw adr aim ard asc ath awl alo atr sh_1))) [10, 11, 12, 13, 14, 15, 16, 17, 18, 1, 2, 3, 4, 5, 6, 7, 8, 9, 0] (by decide) rfl
  refine cWV [] ((cW k aim sim) ++ (cW k aw sw)) (cH k ah aw adr aim ard asc ath awl alo atr sh_1) (As := [.ref (aw 0)]) (ci := 2) ⟨hx, hb, hml, hown, hts⟩ hOK hz hS hA hP hD (mtX2_likens l D k aim aw Z hOK _ _ _ hc_2) (kX2_likens hts q434 rfl rfl ⟨Nat.le_of_ble_eq_true rfl, Nat.le_of_ble_eq_true rfl⟩) 0 rfl rfl rfl hl.1 rfl (lv_room (Nat.le_of_ble_eq_true rfl)) ⟨Nat.le_of_ble_eq_true rfl, Nat.le_of_ble_eq_true rfl⟩ dX1_image_13 (fun r_ w_ H locs hq hP hD hS => ?_)
  obtain ⟨rfl, rfl⟩ := hq
  have hP := hP.sub (ws' := ((cH k ah aw adr aim ard asc ath awl alo atr sh_1) ++ ((cW k aw sw) ++ (cW k aim sim_3)))) [18, 9, 10, 11, 12, 13, 14, 15, 16, 17, 0, 1, 2, 3, 4, 5, 6, 7, 8] rfl
  have hD := hD.sub (ws' := ((cH k ah aw adr aim ard asc ath awl alo atr sh_1) ++ ((cW k aw sw) ++ (cW k aim sim_3)))) [18, 9, 10, 11, 12, 13, 14, 15, 16, 17, 0, 1, 2, 3, 4, 5, 6, 7, 8] (by decide) rfl
  refine lv_pop hx hb dX1_image_16 rfl ?_
  cases hrun
  exact retW_v hx hb hr hlocks hP hD hS ⟨rfl, rfl⟩ dX1_image_17
