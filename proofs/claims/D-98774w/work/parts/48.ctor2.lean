/-! CONSTRUCTORS of the objects of the law -/
def rX14_init : Room := { frames := 1, cells := 0, slots := 0, locals := 30 }
theorem kX14_init {R : Room} {s : State} {args : Array Value} {own : String} {idx mc ms : Nat} {rm : Room} (hts : ∀ w ∈ lw_all, w.before args s = true) (hl : Cond.methodLink own idx yX14_init ∈ lw_all) (hrc : rm.cells = mc) (hrs : rm.slots = ms) (hR : rm.frames + 1 ≤ R.frames ∧ 8 + (3 + 11) + rm.locals ≤ R.locals) : CallB R s args own idx yX14_init cX14_init 3 none (ws_ yX14_init cX14_init 3 none) rm mc ms 2 ∧ yX14_init.name = "<init>" ∧ (Cond.instanceMethod yX14_init).before args s = true :=
  cwI 2 hts (lw_meth q1415) rfl hrc hrs (hts _ q140) (hts _ hl) (hts _ q1414) rfl (by decide +kernel) hR
set_option maxRecDepth 100000 in
theorem mtX14_init (l : Launch) (D : va_G) (k : Nat → ClassId) (Z : zZ) (hOK : zOK D zCl (zTys k) Z) (q0 : Nat) (p1 : Int32) (p2 : Option Nat) : CtW l yX14_init cX14_init 3 none rX14_init Z D zCl [(q0, .inr (13, [.int 0, .null]))] [.ref q0, .int p1, va_rf p2] (fun r' w' => r' = none ∧ w' = [(q0, .inr (13, [.int p1, va_rf p2]))]) 0 0 := by
  cases p2 with
  | none =>
    refine CtW.of (by decide) (Nat.le_of_ble_eq_true rfl) ?_
    intro p e9 s m args below meth c A hE hA hP hD hS hz ls hl
    obtain ⟨hx, hb, hr, hml, hown, hts, hlocks, hname⟩ := hE
    have hown : s.vm.findClass RX14 = some m.cls := hown
    have hK := hOK.1 _ _ _ hz
    have hN := hOK.2.1 _ _ _ hz
    have hl : lv_has ls 3 [(0, .ref q0), (1, .int p1), (2, va_rf none)] := hl
    refine lv_aload_n hx hb dX14_init_0 rfl (lv_at hl 0 rfl) ?_
    refine W.objInit hx hb hown (hts _ q1416) (hts _ q154) (hts _ q155) rfl (by rw [hml]; exact hl.1) rfl dX14_init_1 (Nat.le_of_ble_eq_true rfl) (Nat.le_of_ble_eq_true rfl) ?_
    refine W.eq (g2 := F0 m 4 ls []) rfl ?_
    refine lv_aload_n hx hb dX14_init_4 rfl (lv_at hl 0 rfl) ?_
    refine lv_iload_n hx hb dX14_init_5 rfl (lv_at hl 1 rfl) ?_
    refine va_putF (ci := 13) (v := .int p1) (ty := tyX14 0) (C := RX14) (T := TX14) (N := 2) hx hb hts in_X14 tyX14 tyX14_ok nmX14 hown hK hP hD hS 0 rfl rfl 0 (by decide) (hts _ q1417) (fun _ h9 => h9) rfl hname rfl (tyX14_ok 0 (by decide)) rfl rfl (Nat.le_of_ble_eq_true rfl) dX14_init_6 (fun H locs hP hD hS => ?_)
    have hP : va_P D zCl [(q0, .inr (13, [.int p1, .null]))] _ := hP
    have hD : va_D A [(q0, .inr (13, [.int p1, .null]))] := hD
    refine lv_aload_n hx hb dX14_init_9 rfl (lv_at hl 0 rfl) ?_
    refine lv_aload_nN hx hb dX14_init_10 rfl (lv_at hl 2 rfl) ?_
    refine va_putF (ci := 13) (v := va_rf none) (ty := tyX14 1) (C := RX14) (T := TX14) (N := 2) hx hb hts in_X14 tyX14 tyX14_ok nmX14 hown hK hP hD hS 0 rfl rfl 1 (by decide) (hts _ q1418) (fun _ h9 => h9) rfl hname rfl (tyX14_ok 1 (by decide)) (q_nar _) (q_fit _) (Nat.le_of_ble_eq_true rfl) dX14_init_11 (fun H locs hP hD hS => ?_)
    have hP : va_P D zCl [(q0, .inr (13, [.int p1, va_rf none]))] _ := hP
    have hD : va_D A [(q0, .inr (13, [.int p1, va_rf none]))] := hD
    exact retW_v hx hb hr hlocks hP hD hS ⟨rfl, rfl⟩ dX14_init_14
  | some q9 =>
    refine CtW.of (by decide) (Nat.le_of_ble_eq_true rfl) ?_
    intro p e9 s m args below meth c A hE hA hP hD hS hz ls hl
    obtain ⟨hx, hb, hr, hml, hown, hts, hlocks, hname⟩ := hE
    have hown : s.vm.findClass RX14 = some m.cls := hown
    have hK := hOK.1 _ _ _ hz
    have hN := hOK.2.1 _ _ _ hz
    have hl : lv_has ls 3 [(0, .ref q0), (1, .int p1), (2, va_rf (some q9))] := hl
    refine lv_aload_n hx hb dX14_init_0 rfl (lv_at hl 0 rfl) ?_
    refine W.objInit hx hb hown (hts _ q1416) (hts _ q154) (hts _ q155) rfl (by rw [hml]; exact hl.1) rfl dX14_init_1 (Nat.le_of_ble_eq_true rfl) (Nat.le_of_ble_eq_true rfl) ?_
    refine W.eq (g2 := F0 m 4 ls []) rfl ?_
    refine lv_aload_n hx hb dX14_init_4 rfl (lv_at hl 0 rfl) ?_
    refine lv_iload_n hx hb dX14_init_5 rfl (lv_at hl 1 rfl) ?_
    refine va_putF (ci := 13) (v := .int p1) (ty := tyX14 0) (C := RX14) (T := TX14) (N := 2) hx hb hts in_X14 tyX14 tyX14_ok nmX14 hown hK hP hD hS 0 rfl rfl 0 (by decide) (hts _ q1417) (fun _ h9 => h9) rfl hname rfl (tyX14_ok 0 (by decide)) rfl rfl (Nat.le_of_ble_eq_true rfl) dX14_init_6 (fun H locs hP hD hS => ?_)
    have hP : va_P D zCl [(q0, .inr (13, [.int p1, .null]))] _ := hP
    have hD : va_D A [(q0, .inr (13, [.int p1, .null]))] := hD
    refine lv_aload_n hx hb dX14_init_9 rfl (lv_at hl 0 rfl) ?_
    refine lv_aload_n hx hb dX14_init_10 rfl (lv_at hl 2 rfl) ?_
    refine va_putF (ci := 13) (v := va_rf (some q9)) (ty := tyX14 1) (C := RX14) (T := TX14) (N := 2) hx hb hts in_X14 tyX14 tyX14_ok nmX14 hown hK hP hD hS 0 rfl rfl 1 (by decide) (hts _ q1418) (fun _ h9 => h9) rfl hname rfl (tyX14_ok 1 (by decide)) (q_nar _) (q_fit _) (Nat.le_of_ble_eq_true rfl) dX14_init_11 (fun H locs hP hD hS => ?_)
    have hP : va_P D zCl [(q0, .inr (13, [.int p1, va_rf (some q9)]))] _ := hP
    have hD : va_D A [(q0, .inr (13, [.int p1, va_rf (some q9)]))] := hD
    exact retW_v hx hb hr hlocks hP hD hS ⟨rfl, rfl⟩ dX14_init_14
def rX13_init : Room := { frames := 4, cells := 1, slots := 3, locals := 90 }
theorem kX13_init {R : Room} {s : State} {args : Array Value} {own : String} {idx mc ms : Nat} {rm : Room} (hts : ∀ w ∈ lw_all, w.before args s = true) (hl : Cond.methodLink own idx yX13_init ∈ lw_all) (hrc : rm.cells = mc) (hrs : rm.slots = ms) (hR : rm.frames + 1 ≤ R.frames ∧ 8 + (1 + 11) + rm.locals ≤ R.locals) : CallB R s args own idx yX13_init cX13_init 1 none (ws_ yX13_init cX13_init 1 none) rm mc ms 0 ∧ yX13_init.name = "<init>" ∧ (Cond.instanceMethod yX13_init).before args s = true :=
  cwI 0 hts (lw_meth q1394) rfl hrc hrs (hts _ q139) (hts _ hl) (hts _ q1393) rfl (by decide +kernel) hR
theorem kX13_initn {R : Room} {s : State} {args : Array Value} {own : String} {idx mc ms : Nat} {rm : Room} (hN : ∀ w ∈ zN, va_Nw w s) (hts : ∀ w ∈ lw_all, w.before args s = true) (hl : va_Nw (.methodLinkNest own idx yX13_init "SaturdayKeep") s) (hrc : rm.cells = mc) (hrs : rm.slots = ms) (hR : rm.frames + 1 ≤ R.frames ∧ 8 + (1 + 11) + rm.locals ≤ R.locals) : va_CN R s args own idx yX13_init "SaturdayKeep" cX13_init 1 none (ws_ yX13_init cX13_init 1 none) rm mc ms 0 ∧ yX13_init.name = "<init>" ∧ (Cond.instanceMethod yX13_init).before args s = true :=
  ⟨va_cnB 0 hts (lw_meth q1394) rfl hrc hrs hl (hts _ q139) (by decide +kernel) hR, rfl, hts _ q1393⟩
set_option maxRecDepth 100000 in
theorem mtX13_init (l : Launch) (D : va_G) (k : Nat → ClassId) (Z : zZ) (hOK : zOK D zCl (zTys k) Z) {e0 mi : Nat} (hLs : zLs Z e0 mi) (q0 : Nat) : CtW l yX13_init cX13_init 1 none rX13_init Z D zCl [(q0, .inr (12, [.null]))] [.ref q0] (fun r' w' => ∃ ql, r' = none ∧ w' = ([(q0, .inr (12, [.ref ql]))] ++ [lsO ql e0 0 0])) 1 3 := by
  refine CtW.of (by decide) (Nat.le_of_ble_eq_true rfl) ?_
  intro p e9 s m args below meth c A hE hA hP hD hS hz ls hl
  obtain ⟨hx, hb, hr, hml, hown, hts, hlocks, hname⟩ := hE
  have hown : s.vm.findClass RX13 = some m.cls := hown
  have hK := hOK.1 _ _ _ hz
  have hN := hOK.2.1 _ _ _ hz
  have hl : lv_has ls 1 [(0, .ref q0)] := hl
  refine lv_aload_n hx hb dX13_init_0 rfl (lv_at hl 0 rfl) ?_
  refine W.objInit hx hb hown (hts _ q1395) (hts _ q154) (hts _ q155) rfl (by rw [hml]; exact hl.1) rfl dX13_init_1 (Nat.le_of_ble_eq_true rfl) (Nat.le_of_ble_eq_true rfl) ?_
  refine W.eq (g2 := F0 m 4 ls []) rfl ?_
  refine lv_aload_n hx hb dX13_init_4 rfl (lv_at hl 0 rfl) ?_
  refine va_new (ci := 15) (fs := [.int 0, .null, .int 0]) (C := RJ2) (T := TJ2) (N := 3) hx hb hts in_J2 tyJ2 tyJ2_ok hown (hts _ q1396) (hts _ q331) (hts _ q113) hK hP hD hS hA rfl (zdef 3 tyJ2) (Nat.le_of_ble_eq_true rfl) (Nat.le_of_ble_eq_true rfl) dX13_init_5 (fun q1 H hP hD hS => ?_)
  have hP : va_P D zCl ([(q0, .inr (12, [.null]))] ++ [(q1, .inr (15, [.int 0, .null, .int 0]))]) _ := hP
  have hD : va_D A ([(q0, .inr (12, [.null]))] ++ [(q1, .inr (15, [.int 0, .null, .int 0]))]) := hD
  refine lv_dup hx hb dX13_init_8 rfl ?_
  have hP : va_P D zCl ([(q0, .inr (12, [.null]))] ++ ([(q1, .inr (15, [.int 0, .null, .int 0]))] ++ [])) _ := hP
  have hD : va_D A ([(q0, .inr (12, [.null]))] ++ ([(q1, .inr (15, [.int 0, .null, .int 0]))] ++ [])) := hD
  refine cWI [(q0, .inr (12, [.null]))] [(q1, .inr (15, [.int 0, .null, .int 0]))] [] (As := []) ⟨hx, hb, hml, hown, hts⟩ hOK hz hS hA hP hD (mtJ2_init l D k Z hOK hLs q1) (kJ2_init hts q1397 rfl rfl ⟨Nat.le_of_ble_eq_true rfl, Nat.le_of_ble_eq_true rfl⟩) rfl hl.1 rfl (lv_room (Nat.le_of_ble_eq_true rfl)) ⟨(Nat.le_of_ble_eq_true rfl), (Nat.le_of_ble_eq_true rfl)⟩ dX13_init_9 (fun r_ w_ H locs hq hP hD hS => ?_)
  obtain ⟨rfl, rfl⟩ := hq
  have hP : va_P D zCl ([(q0, .inr (12, [.null]))] ++ ([lsO q1 e0 0 0])) _ := hP
  have hD : va_D A ([(q0, .inr (12, [.null]))] ++ ([lsO q1 e0 0 0])) := hD
  refine va_putF (ci := 12) (v := .ref q1) (ty := tyX13 0) (C := RX13) (T := TX13) (N := 1) hx hb hts in_X13 tyX13 tyX13_ok nmX13 hown hK hP hD hS 0 rfl rfl 0 (by decide) (hts _ q1398) (fun _ h9 => h9) rfl hname rfl (tyX13_ok 0 (by decide)) rfl rfl (Nat.le_of_ble_eq_true rfl) dX13_init_12 (fun H locs hP hD hS => ?_)
  have hP : va_P D zCl ([(q0, .inr (12, [.ref q1]))] ++ ([lsO q1 e0 0 0])) _ := hP
  have hD : va_D A ([(q0, .inr (12, [.ref q1]))] ++ ([lsO q1 e0 0 0])) := hD
  exact retW_v hx hb hr hlocks hP hD hS ⟨_, rfl, rfl⟩ dX13_init_15
def rX16_init : Room := { frames := 1, cells := 0, slots := 0, locals := 30 }
theorem kX16_init {R : Room} {s : State} {args : Array Value} {own : String} {idx mc ms : Nat} {rm : Room} (hts : ∀ w ∈ lw_all, w.before args s = true) (hl : Cond.methodLink own idx yX16_init ∈ lw_all) (hrc : rm.cells = mc) (hrs : rm.slots = ms) (hR : rm.frames + 1 ≤ R.frames ∧ 8 + (3 + 11) + rm.locals ≤ R.locals) : CallB R s args own idx yX16_init cX16_init 3 none (ws_ yX16_init cX16_init 3 none) rm mc ms 2 ∧ yX16_init.name = "<init>" ∧ (Cond.instanceMethod yX16_init).before args s = true :=
  cwI 2 hts (lw_meth q1500) rfl hrc hrs (hts _ q143) (hts _ hl) (hts _ q1499) rfl (by decide +kernel) hR
set_option maxRecDepth 100000 in
theorem mtX16_init (l : Launch) (D : va_G) (k : Nat → ClassId) (Z : zZ) (hOK : zOK D zCl (zTys k) Z) (q0 : Nat) (p1 : Nat) (p2 : Nat) : CtW l yX16_init cX16_init 3 none rX16_init Z D zCl [(q0, .inr (14, [.null, .null]))] [.ref q0, .ref p1, .ref p2] (fun r' w' => r' = none ∧ w' = [(q0, .inr (14, [.ref p1, .ref p2]))]) 0 0 := by
  refine CtW.of (by decide) (Nat.le_of_ble_eq_true rfl) ?_
  intro p e9 s m args below meth c A hE hA hP hD hS hz ls hl
  obtain ⟨hx, hb, hr, hml, hown, hts, hlocks, hname⟩ := hE
  have hown : s.vm.findClass RX16 = some m.cls := hown
  have hK := hOK.1 _ _ _ hz
  have hN := hOK.2.1 _ _ _ hz
  have hl : lv_has ls 3 [(0, .ref q0), (1, .ref p1), (2, .ref p2)] := hl
  refine lv_aload_n hx hb dX16_init_0 rfl (lv_at hl 0 rfl) ?_
  refine W.objInit hx hb hown (hts _ q1501) (hts _ q154) (hts _ q155) rfl (by rw [hml]; exact hl.1) rfl dX16_init_1 (Nat.le_of_ble_eq_true rfl) (Nat.le_of_ble_eq_true rfl) ?_
  refine W.eq (g2 := F0 m 4 ls []) rfl ?_
  refine lv_aload_n hx hb dX16_init_4 rfl (lv_at hl 0 rfl) ?_
  refine lv_aload_n hx hb dX16_init_5 rfl (lv_at hl 1 rfl) ?_
  refine va_putF (ci := 14) (v := .ref p1) (ty := tyX16 0) (C := RX16) (T := TX16) (N := 2) hx hb hts in_X16 tyX16 tyX16_ok nmX16 hown hK hP hD hS 0 rfl rfl 0 (by decide) (hts _ q1502) (fun _ h9 => h9) rfl hname rfl (tyX16_ok 0 (by decide)) rfl rfl (Nat.le_of_ble_eq_true rfl) dX16_init_6 (fun H locs hP hD hS => ?_)
  have hP : va_P D zCl [(q0, .inr (14, [.ref p1, .null]))] _ := hP
  have hD : va_D A [(q0, .inr (14, [.ref p1, .null]))] := hD
  refine lv_aload_n hx hb dX16_init_9 rfl (lv_at hl 0 rfl) ?_
  refine lv_aload_n hx hb dX16_init_10 rfl (lv_at hl 2 rfl) ?_
  refine va_putF (ci := 14) (v := .ref p2) (ty := tyX16 1) (C := RX16) (T := TX16) (N := 2) hx hb hts in_X16 tyX16 tyX16_ok nmX16 hown hK hP hD hS 0 rfl rfl 1 (by decide) (hts _ q1503) (fun _ h9 => h9) rfl hname rfl (tyX16_ok 1 (by decide)) rfl rfl (Nat.le_of_ble_eq_true rfl) dX16_init_11 (fun H locs hP hD hS => ?_)
  have hP : va_P D zCl [(q0, .inr (14, [.ref p1, .ref p2]))] _ := hP
  have hD : va_D A [(q0, .inr (14, [.ref p1, .ref p2]))] := hD
  exact retW_v hx hb hr hlocks hP hD hS ⟨rfl, rfl⟩ dX16_init_14
def rX12_init : Room := { frames := 1, cells := 0, slots := 0, locals := 30 }
theorem kX12_init {R : Room} {s : State} {args : Array Value} {own : String} {idx mc ms : Nat} {rm : Room} (hts : ∀ w ∈ lw_all, w.before args s = true) (hl : Cond.methodLink own idx yX12_init ∈ lw_all) (hrc : rm.cells = mc) (hrs : rm.slots = ms) (hR : rm.frames + 1 ≤ R.frames ∧ 8 + (2 + 11) + rm.locals ≤ R.locals) : CallB R s args own idx yX12_init cX12_init 2 none (ws_ yX12_init cX12_init 2 none) rm mc ms 1 ∧ yX12_init.name = "<init>" ∧ (Cond.instanceMethod yX12_init).before args s = true :=
  cwI 1 hts (lw_meth q1379) rfl hrc hrs (hts _ q138) (hts _ hl) (hts _ q1378) rfl (by decide +kernel) hR
set_option maxRecDepth 100000 in
theorem mtX12_init (l : Launch) (D : va_G) (k : Nat → ClassId) (Z : zZ) (hOK : zOK D zCl (zTys k) Z) (q0 : Nat) (p1 : Bool) : CtW l yX12_init cX12_init 2 none rX12_init Z D zCl [(q0, .inr (11, [.int 0]))] [.ref q0, .int (bz p1)] (fun r' w' => r' = none ∧ w' = [(q0, .inr (11, [.int (bz p1)]))]) 0 0 := by
  refine CtW.of (by decide) (Nat.le_of_ble_eq_true rfl) ?_
  intro p e9 s m args below meth c A hE hA hP hD hS hz ls hl
  obtain ⟨hx, hb, hr, hml, hown, hts, hlocks, hname⟩ := hE
  have hown : s.vm.findClass RX12 = some m.cls := hown
  have hK := hOK.1 _ _ _ hz
  have hN := hOK.2.1 _ _ _ hz
  have hl : lv_has ls 2 [(0, .ref q0), (1, .int (bz p1))] := hl
  refine lv_aload_n hx hb dX12_init_0 rfl (lv_at hl 0 rfl) ?_
  refine W.objInit hx hb hown (hts _ q1380) (hts _ q154) (hts _ q155) rfl (by rw [hml]; exact hl.1) rfl dX12_init_1 (Nat.le_of_ble_eq_true rfl) (Nat.le_of_ble_eq_true rfl) ?_
  refine W.eq (g2 := F0 m 4 ls []) rfl ?_
  refine lv_aload_n hx hb dX12_init_4 rfl (lv_at hl 0 rfl) ?_
  refine lv_iload_n hx hb dX12_init_5 rfl (lv_at hl 1 rfl) ?_
  refine va_putF (ci := 11) (v := .int (bz p1)) (ty := tyX12 0) (C := RX12) (T := TX12) (N := 1) hx hb hts in_X12 tyX12 tyX12_ok nmX12 hown hK hP hD hS 0 rfl rfl 0 (by decide) (hts _ q1381) (fun _ h9 => h9) rfl hname rfl (tyX12_ok 0 (by decide)) (bz_nar _) (bz_fit _) (Nat.le_of_ble_eq_true rfl) dX12_init_6 (fun H locs hP hD hS => ?_)
  have hP : va_P D zCl [(q0, .inr (11, [.int (bz p1)]))] _ := hP
  have hD : va_D A [(q0, .inr (11, [.int (bz p1)]))] := hD
  exact retW_v hx hb hr hlocks hP hD hS ⟨rfl, rfl⟩ dX12_init_9
def rX11_init : Room := { frames := 1, cells := 0, slots := 0, locals := 30 }
theorem kX11_init {R : Room} {s : State} {args : Array Value} {own : String} {idx mc ms : Nat} {rm : Room} (hts : ∀ w ∈ lw_all, w.before args s = true) (hl : Cond.methodLink own idx yX11_init ∈ lw_all) (hrc : rm.cells = mc) (hrs : rm.slots = ms) (hR : rm.frames + 1 ≤ R.frames ∧ 8 + (2 + 11) + rm.locals ≤ R.locals) : CallB R s args own idx yX11_init cX11_init 2 none (ws_ yX11_init cX11_init 2 none) rm mc ms 1 ∧ yX11_init.name = "<init>" ∧ (Cond.instanceMethod yX11_init).before args s = true :=
  cwI 1 hts (lw_meth q1369) rfl hrc hrs (hts _ q137) (hts _ hl) (hts _ q1368) rfl (by decide +kernel) hR
set_option maxRecDepth 100000 in
theorem mtX11_init (l : Launch) (D : va_G) (k : Nat → ClassId) (Z : zZ) (hOK : zOK D zCl (zTys k) Z) (q0 : Nat) (p1 : Nat) : CtW l yX11_init cX11_init 2 none rX11_init Z D zCl [(q0, .inr (10, [.null]))] [.ref q0, .ref p1] (fun r' w' => r' = none ∧ w' = [(q0, .inr (10, [.ref p1]))]) 0 0 := by
  refine CtW.of (by decide) (Nat.le_of_ble_eq_true rfl) ?_
  intro p e9 s m args below meth c A hE hA hP hD hS hz ls hl
  obtain ⟨hx, hb, hr, hml, hown, hts, hlocks, hname⟩ := hE
  have hown : s.vm.findClass RX11 = some m.cls := hown
  have hK := hOK.1 _ _ _ hz
  have hN := hOK.2.1 _ _ _ hz
  have hl : lv_has ls 2 [(0, .ref q0), (1, .ref p1)] := hl
  refine lv_aload_n hx hb dX11_init_0 rfl (lv_at hl 0 rfl) ?_
  refine W.objInit hx hb hown (hts _ q1370) (hts _ q154) (hts _ q155) rfl (by rw [hml]; exact hl.1) rfl dX11_init_1 (Nat.le_of_ble_eq_true rfl) (Nat.le_of_ble_eq_true rfl) ?_
  refine W.eq (g2 := F0 m 4 ls []) rfl ?_
  refine lv_aload_n hx hb dX11_init_4 rfl (lv_at hl 0 rfl) ?_
  refine lv_aload_n hx hb dX11_init_5 rfl (lv_at hl 1 rfl) ?_
  refine va_putF (ci := 10) (v := .ref p1) (ty := tyX11 0) (C := RX11) (T := TX11) (N := 1) hx hb hts in_X11 tyX11 tyX11_ok nmX11 hown hK hP hD hS 0 rfl rfl 0 (by decide) (hts _ q1371) (fun _ h9 => h9) rfl hname rfl (tyX11_ok 0 (by decide)) rfl rfl (Nat.le_of_ble_eq_true rfl) dX11_init_6 (fun H locs hP hD hS => ?_)
  have hP : va_P D zCl [(q0, .inr (10, [.ref p1]))] _ := hP
  have hD : va_D A [(q0, .inr (10, [.ref p1]))] := hD
  exact retW_v hx hb hr hlocks hP hD hS ⟨rfl, rfl⟩ dX11_init_9
def rX10_init : Room := { frames := 4, cells := 1, slots := 3, locals := 90 }
theorem kX10_init {R : Room} {s : State} {args : Array Value} {own : String} {idx mc ms : Nat} {rm : Room} (hts : ∀ w ∈ lw_all, w.before args s = true) (hl : Cond.methodLink own idx yX10_init ∈ lw_all) (hrc : rm.cells = mc) (hrs : rm.slots = ms) (hR : rm.frames + 1 ≤ R.frames ∧ 8 + (2 + 11) + rm.locals ≤ R.locals) : CallB R s args own idx yX10_init cX10_init 2 none (ws_ yX10_init cX10_init 2 none) rm mc ms 1 ∧ yX10_init.name = "<init>" ∧ (Cond.instanceMethod yX10_init).before args s = true :=
  cwI 1 hts (lw_meth q1336) rfl hrc hrs (hts _ q136) (hts _ hl) (hts _ q1335) rfl (by decide +kernel) hR
set_option maxRecDepth 100000 in
theorem mtX10_init (l : Launch) (D : va_G) (k : Nat → ClassId) (Z : zZ) (hOK : zOK D zCl (zTys k) Z) {e0 mi : Nat} (hLs : zLs Z e0 mi) (q0 : Nat) (p1 : Bool) : CtW l yX10_init cX10_init 2 none rX10_init Z D zCl [(q0, .inr (9, [.int 0, .null]))] [.ref q0, .int (bz p1)] (fun r' w' => ∃ ql, r' = none ∧ w' = ([(q0, .inr (9, [.int (bz p1), .ref ql]))] ++ [lsO ql e0 0 0])) 1 3 := by
  refine CtW.of (by decide) (Nat.le_of_ble_eq_true rfl) ?_
  intro p e9 s m args below meth c A hE hA hP hD hS hz ls hl
  obtain ⟨hx, hb, hr, hml, hown, hts, hlocks, hname⟩ := hE
  have hown : s.vm.findClass RX10 = some m.cls := hown
  have hK := hOK.1 _ _ _ hz
  have hN := hOK.2.1 _ _ _ hz
  have hl : lv_has ls 2 [(0, .ref q0), (1, .int (bz p1))] := hl
  refine lv_aload_n hx hb dX10_init_0 rfl (lv_at hl 0 rfl) ?_
  refine W.objInit hx hb hown (hts _ q1337) (hts _ q154) (hts _ q155) rfl (by rw [hml]; exact hl.1) rfl dX10_init_1 (Nat.le_of_ble_eq_true rfl) (Nat.le_of_ble_eq_true rfl) ?_
  refine W.eq (g2 := F0 m 4 ls []) rfl ?_
  refine lv_aload_n hx hb dX10_init_4 rfl (lv_at hl 0 rfl) ?_
  refine va_new (ci := 15) (fs := [.int 0, .null, .int 0]) (C := RJ2) (T := TJ2) (N := 3) hx hb hts in_J2 tyJ2 tyJ2_ok hown (hts _ q1338) (hts _ q331) (hts _ q113) hK hP hD hS hA rfl (zdef 3 tyJ2) (Nat.le_of_ble_eq_true rfl) (Nat.le_of_ble_eq_true rfl) dX10_init_5 (fun q1 H hP hD hS => ?_)
  have hP : va_P D zCl ([(q0, .inr (9, [.int 0, .null]))] ++ [(q1, .inr (15, [.int 0, .null, .int 0]))]) _ := hP
  have hD : va_D A ([(q0, .inr (9, [.int 0, .null]))] ++ [(q1, .inr (15, [.int 0, .null, .int 0]))]) := hD
  refine lv_dup hx hb dX10_init_8 rfl ?_
  have hP : va_P D zCl ([(q0, .inr (9, [.int 0, .null]))] ++ ([(q1, .inr (15, [.int 0, .null, .int 0]))] ++ [])) _ := hP
  have hD : va_D A ([(q0, .inr (9, [.int 0, .null]))] ++ ([(q1, .inr (15, [.int 0, .null, .int 0]))] ++ [])) := hD
  refine cWI [(q0, .inr (9, [.int 0, .null]))] [(q1, .inr (15, [.int 0, .null, .int 0]))] [] (As := []) ⟨hx, hb, hml, hown, hts⟩ hOK hz hS hA hP hD (mtJ2_init l D k Z hOK hLs q1) (kJ2_init hts q1339 rfl rfl ⟨Nat.le_of_ble_eq_true rfl, Nat.le_of_ble_eq_true rfl⟩) rfl hl.1 rfl (lv_room (Nat.le_of_ble_eq_true rfl)) ⟨(Nat.le_of_ble_eq_true rfl), (Nat.le_of_ble_eq_true rfl)⟩ dX10_init_9 (fun r_ w_ H locs hq hP hD hS => ?_)
  obtain ⟨rfl, rfl⟩ := hq
  have hP : va_P D zCl ([(q0, .inr (9, [.int 0, .null]))] ++ ([lsO q1 e0 0 0])) _ := hP
  have hD : va_D A ([(q0, .inr (9, [.int 0, .null]))] ++ ([lsO q1 e0 0 0])) := hD
  refine va_putF (ci := 9) (v := .ref q1) (ty := tyX10 1) (C := RX10) (T := TX10) (N := 2) hx hb hts in_X10 tyX10 tyX10_ok nmX10 hown hK hP hD hS 0 rfl rfl 1 (by decide) (hts _ q1341) (fun _ h9 => h9) rfl hname rfl (tyX10_ok 1 (by decide)) rfl rfl (Nat.le_of_ble_eq_true rfl) dX10_init_12 (fun H locs hP hD hS => ?_)
  have hP : va_P D zCl ([(q0, .inr (9, [.int 0, .ref q1]))] ++ ([lsO q1 e0 0 0])) _ := hP
  have hD : va_D A ([(q0, .inr (9, [.int 0, .ref q1]))] ++ ([lsO q1 e0 0 0])) := hD
  refine lv_aload_n hx hb dX10_init_15 rfl (lv_at hl 0 rfl) ?_
  refine lv_iload_n hx hb dX10_init_16 rfl (lv_at hl 1 rfl) ?_
  refine va_putF (ci := 9) (v := .int (bz p1)) (ty := tyX10 0) (C := RX10) (T := TX10) (N := 2) hx hb hts in_X10 tyX10 tyX10_ok nmX10 hown hK hP hD hS 0 rfl rfl 0 (by decide) (hts _ q1340) (fun _ h9 => h9) rfl hname rfl (tyX10_ok 0 (by decide)) (bz_nar _) (bz_fit _) (Nat.le_of_ble_eq_true rfl) dX10_init_17 (fun H locs hP hD hS => ?_)
  have hP : va_P D zCl ([(q0, .inr (9, [.int (bz p1), .ref q1]))] ++ ([lsO q1 e0 0 0])) _ := hP
  have hD : va_D A ([(q0, .inr (9, [.int (bz p1), .ref q1]))] ++ ([lsO q1 e0 0 0])) := hD
  exact retW_v hx hb hr hlocks hP hD hS ⟨_, rfl, rfl⟩ dX10_init_20
def rX9_init : Room := { frames := 1, cells := 0, slots := 0, locals := 30 }
theorem kX9_init {R : Room} {s : State} {args : Array Value} {own : String} {idx mc ms : Nat} {rm : Room} (hts : ∀ w ∈ lw_all, w.before args s = true) (hl : Cond.methodLink own idx yX9_init ∈ lw_all) (hrc : rm.cells = mc) (hrs : rm.slots = ms) (hR : rm.frames + 1 ≤ R.frames ∧ 8 + (4 + 11) + rm.locals ≤ R.locals) : CallB R s args own idx yX9_init cX9_init 4 none (ws_ yX9_init cX9_init 4 none) rm mc ms 3 ∧ yX9_init.name = "<init>" ∧ (Cond.instanceMethod yX9_init).before args s = true :=
  cwI 3 hts (lw_meth q1513) rfl hrc hrs (hts _ q135) (hts _ hl) (hts _ q1512) rfl (by decide +kernel) hR
set_option maxRecDepth 100000 in
theorem mtX9_init (l : Launch) (D : va_G) (k : Nat → ClassId) (Z : zZ) (hOK : zOK D zCl (zTys k) Z) (q0 : Nat) (p1 : Bool) (p2 : Int32) (p3 : Option Nat) : CtW l yX9_init cX9_init 4 none rX9_init Z D zCl [(q0, .inr (8, [.int 0, .int 0, .null]))] [.ref q0, .int (bz p1), .int p2, va_rf p3] (fun r' w' => r' = none ∧ w' = [(q0, .inr (8, [.int (bz p1), .int p2, va_rf p3]))]) 0 0 := by
  cases p3 with
  | none =>
    refine CtW.of (by decide) (Nat.le_of_ble_eq_true rfl) ?_
    intro p e9 s m args below meth c A hE hA hP hD hS hz ls hl
    obtain ⟨hx, hb, hr, hml, hown, hts, hlocks, hname⟩ := hE
    have hown : s.vm.findClass RX9 = some m.cls := hown
    have hK := hOK.1 _ _ _ hz
    have hN := hOK.2.1 _ _ _ hz
    have hl : lv_has ls 4 [(0, .ref q0), (1, .int (bz p1)), (2, .int p2), (3, va_rf none)] := hl
    refine lv_aload_n hx hb dX9_init_0 rfl (lv_at hl 0 rfl) ?_
    refine W.objInit hx hb hown (hts _ q1514) (hts _ q154) (hts _ q155) rfl (by rw [hml]; exact hl.1) rfl dX9_init_1 (Nat.le_of_ble_eq_true rfl) (Nat.le_of_ble_eq_true rfl) ?_
    refine W.eq (g2 := F0 m 4 ls []) rfl ?_
    refine lv_aload_n hx hb dX9_init_4 rfl (lv_at hl 0 rfl) ?_
    refine lv_iload_n hx hb dX9_init_5 rfl (lv_at hl 1 rfl) ?_
    refine va_putF (ci := 8) (v := .int (bz p1)) (ty := tyX9 0) (C := RX9) (T := TX9) (N := 3) hx hb hts in_X9 tyX9 tyX9_ok nmX9 hown hK hP hD hS 0 rfl rfl 0 (by decide) (hts _ q1515) (fun _ h9 => h9) rfl hname rfl (tyX9_ok 0 (by decide)) (bz_nar _) (bz_fit _) (Nat.le_of_ble_eq_true rfl) dX9_init_6 (fun H locs hP hD hS => ?_)
    have hP : va_P D zCl [(q0, .inr (8, [.int (bz p1), .int 0, .null]))] _ := hP
    have hD : va_D A [(q0, .inr (8, [.int (bz p1), .int 0, .null]))] := hD
    refine lv_aload_n hx hb dX9_init_9 rfl (lv_at hl 0 rfl) ?_
    refine lv_iload_n hx hb dX9_init_10 rfl (lv_at hl 2 rfl) ?_
    refine va_putF (ci := 8) (v := .int p2) (ty := tyX9 1) (C := RX9) (T := TX9) (N := 3) hx hb hts in_X9 tyX9 tyX9_ok nmX9 hown hK hP hD hS 0 rfl rfl 1 (by decide) (hts _ q1516) (fun _ h9 => h9) rfl hname rfl (tyX9_ok 1 (by decide)) rfl rfl (Nat.le_of_ble_eq_true rfl) dX9_init_11 (fun H locs hP hD hS => ?_)
    have hP : va_P D zCl [(q0, .inr (8, [.int (bz p1), .int p2, .null]))] _ := hP
    have hD : va_D A [(q0, .inr (8, [.int (bz p1), .int p2, .null]))] := hD
    refine lv_aload_n hx hb dX9_init_14 rfl (lv_at hl 0 rfl) ?_
    refine lv_aload_nN hx hb dX9_init_15 rfl (lv_at hl 3 rfl) ?_
    refine va_putF (ci := 8) (v := va_rf none) (ty := tyX9 2) (C := RX9) (T := TX9) (N := 3) hx hb hts in_X9 tyX9 tyX9_ok nmX9 hown hK hP hD hS 0 rfl rfl 2 (by decide) (hts _ q1517) (fun _ h9 => h9) rfl hname rfl (tyX9_ok 2 (by decide)) (q_nar _) (q_fit _) (Nat.le_of_ble_eq_true rfl) dX9_init_16 (fun H locs hP hD hS => ?_)
    have hP : va_P D zCl [(q0, .inr (8, [.int (bz p1), .int p2, va_rf none]))] _ := hP
    have hD : va_D A [(q0, .inr (8, [.int (bz p1), .int p2, va_rf none]))] := hD
    exact retW_v hx hb hr hlocks hP hD hS ⟨rfl, rfl⟩ dX9_init_19
  | some q9 =>
    refine CtW.of (by decide) (Nat.le_of_ble_eq_true rfl) ?_
    intro p e9 s m args below meth c A hE hA hP hD hS hz ls hl
    obtain ⟨hx, hb, hr, hml, hown, hts, hlocks, hname⟩ := hE
    have hown : s.vm.findClass RX9 = some m.cls := hown
    have hK := hOK.1 _ _ _ hz
    have hN := hOK.2.1 _ _ _ hz
    have hl : lv_has ls 4 [(0, .ref q0), (1, .int (bz p1)), (2, .int p2), (3, va_rf (some q9))] := hl
    refine lv_aload_n hx hb dX9_init_0 rfl (lv_at hl 0 rfl) ?_
    refine W.objInit hx hb hown (hts _ q1514) (hts _ q154) (hts _ q155) rfl (by rw [hml]; exact hl.1) rfl dX9_init_1 (Nat.le_of_ble_eq_true rfl) (Nat.le_of_ble_eq_true rfl) ?_
    refine W.eq (g2 := F0 m 4 ls []) rfl ?_
    refine lv_aload_n hx hb dX9_init_4 rfl (lv_at hl 0 rfl) ?_
    refine lv_iload_n hx hb dX9_init_5 rfl (lv_at hl 1 rfl) ?_
    refine va_putF (ci := 8) (v := .int (bz p1)) (ty := tyX9 0) (C := RX9) (T := TX9) (N := 3) hx hb hts in_X9 tyX9 tyX9_ok nmX9 hown hK hP hD hS 0 rfl rfl 0 (by decide) (hts _ q1515) (fun _ h9 => h9) rfl hname rfl (tyX9_ok 0 (by decide)) (bz_nar _) (bz_fit _) (Nat.le_of_ble_eq_true rfl) dX9_init_6 (fun H locs hP hD hS => ?_)
    have hP : va_P D zCl [(q0, .inr (8, [.int (bz p1), .int 0, .null]))] _ := hP
    have hD : va_D A [(q0, .inr (8, [.int (bz p1), .int 0, .null]))] := hD
    refine lv_aload_n hx hb dX9_init_9 rfl (lv_at hl 0 rfl) ?_
    refine lv_iload_n hx hb dX9_init_10 rfl (lv_at hl 2 rfl) ?_
    refine va_putF (ci := 8) (v := .int p2) (ty := tyX9 1) (C := RX9) (T := TX9) (N := 3) hx hb hts in_X9 tyX9 tyX9_ok nmX9 hown hK hP hD hS 0 rfl rfl 1 (by decide) (hts _ q1516) (fun _ h9 => h9) rfl hname rfl (tyX9_ok 1 (by decide)) rfl rfl (Nat.le_of_ble_eq_true rfl) dX9_init_11 (fun H locs hP hD hS => ?_)
    have hP : va_P D zCl [(q0, .inr (8, [.int (bz p1), .int p2, .null]))] _ := hP
    have hD : va_D A [(q0, .inr (8, [.int (bz p1), .int p2, .null]))] := hD
    refine lv_aload_n hx hb dX9_init_14 rfl (lv_at hl 0 rfl) ?_
    refine lv_aload_n hx hb dX9_init_15 rfl (lv_at hl 3 rfl) ?_
    refine va_putF (ci := 8) (v := va_rf (some q9)) (ty := tyX9 2) (C := RX9) (T := TX9) (N := 3) hx hb hts in_X9 tyX9 tyX9_ok nmX9 hown hK hP hD hS 0 rfl rfl 2 (by decide) (hts _ q1517) (fun _ h9 => h9) rfl hname rfl (tyX9_ok 2 (by decide)) (q_nar _) (q_fit _) (Nat.le_of_ble_eq_true rfl) dX9_init_16 (fun H locs hP hD hS => ?_)
    have hP : va_P D zCl [(q0, .inr (8, [.int (bz p1), .int p2, va_rf (some q9)]))] _ := hP
    have hD : va_D A [(q0, .inr (8, [.int (bz p1), .int p2, va_rf (some q9)]))] := hD
    exact retW_v hx hb hr hlocks hP hD hS ⟨rfl, rfl⟩ dX9_init_19
def rX8_init : Room := { frames := 4, cells := 1, slots := 3, locals := 90 }
theorem kX8_init {R : Room} {s : State} {args : Array Value} {own : String} {idx mc ms : Nat} {rm : Room} (hts : ∀ w ∈ lw_all, w.before args s = true) (hl : Cond.methodLink own idx yX8_init ∈ lw_all) (hrc : rm.cells = mc) (hrs : rm.slots = ms) (hR : rm.frames + 1 ≤ R.frames ∧ 8 + (1 + 11) + rm.locals ≤ R.locals) : CallB R s args own idx yX8_init cX8_init 1 none (ws_ yX8_init cX8_init 1 none) rm mc ms 0 ∧ yX8_init.name = "<init>" ∧ (Cond.instanceMethod yX8_init).before args s = true :=
  cwI 0 hts (lw_meth q1311) rfl hrc hrs (hts _ q134) (hts _ hl) (hts _ q1310) rfl (by decide +kernel) hR
theorem kX8_initn {R : Room} {s : State} {args : Array Value} {own : String} {idx mc ms : Nat} {rm : Room} (hN : ∀ w ∈ zN, va_Nw w s) (hts : ∀ w ∈ lw_all, w.before args s = true) (hl : va_Nw (.methodLinkNest own idx yX8_init "SaturdayKeep") s) (hrc : rm.cells = mc) (hrs : rm.slots = ms) (hR : rm.frames + 1 ≤ R.frames ∧ 8 + (1 + 11) + rm.locals ≤ R.locals) : va_CN R s args own idx yX8_init "SaturdayKeep" cX8_init 1 none (ws_ yX8_init cX8_init 1 none) rm mc ms 0 ∧ yX8_init.name = "<init>" ∧ (Cond.instanceMethod yX8_init).before args s = true :=
  ⟨va_cnB 0 hts (lw_meth q1311) rfl hrc hrs hl (hts _ q134) (by decide +kernel) hR, rfl, hts _ q1310⟩
set_option maxRecDepth 100000 in
theorem mtX8_init (l : Launch) (D : va_G) (k : Nat → ClassId) (Z : zZ) (hOK : zOK D zCl (zTys k) Z) {e0 mi : Nat} (hLs : zLs Z e0 mi) (q0 : Nat) : CtW l yX8_init cX8_init 1 none rX8_init Z D zCl [(q0, .inr (7, [.null]))] [.ref q0] (fun r' w' => ∃ ql, r' = none ∧ w' = ([(q0, .inr (7, [.ref ql]))] ++ [lsO ql e0 0 0])) 1 3 := by
  refine CtW.of (by decide) (Nat.le_of_ble_eq_true rfl) ?_
  intro p e9 s m args below meth c A hE hA hP hD hS hz ls hl
  obtain ⟨hx, hb, hr, hml, hown, hts, hlocks, hname⟩ := hE
  have hown : s.vm.findClass RX8 = some m.cls := hown
  have hK := hOK.1 _ _ _ hz
  have hN := hOK.2.1 _ _ _ hz
  have hl : lv_has ls 1 [(0, .ref q0)] := hl
  refine lv_aload_n hx hb dX8_init_0 rfl (lv_at hl 0 rfl) ?_
  refine W.objInit hx hb hown (hts _ q1312) (hts _ q154) (hts _ q155) rfl (by rw [hml]; exact hl.1) rfl dX8_init_1 (Nat.le_of_ble_eq_true rfl) (Nat.le_of_ble_eq_true rfl) ?_
  refine W.eq (g2 := F0 m 4 ls []) rfl ?_
  refine lv_aload_n hx hb dX8_init_4 rfl (lv_at hl 0 rfl) ?_
  refine va_new (ci := 15) (fs := [.int 0, .null, .int 0]) (C := RJ2) (T := TJ2) (N := 3) hx hb hts in_J2 tyJ2 tyJ2_ok hown (hts _ q1313) (hts _ q331) (hts _ q113) hK hP hD hS hA rfl (zdef 3 tyJ2) (Nat.le_of_ble_eq_true rfl) (Nat.le_of_ble_eq_true rfl) dX8_init_5 (fun q1 H hP hD hS => ?_)
  have hP : va_P D zCl ([(q0, .inr (7, [.null]))] ++ [(q1, .inr (15, [.int 0, .null, .int 0]))]) _ := hP
  have hD : va_D A ([(q0, .inr (7, [.null]))] ++ [(q1, .inr (15, [.int 0, .null, .int 0]))]) := hD
  refine lv_dup hx hb dX8_init_8 rfl ?_
  have hP : va_P D zCl ([(q0, .inr (7, [.null]))] ++ ([(q1, .inr (15, [.int 0, .null, .int 0]))] ++ [])) _ := hP
  have hD : va_D A ([(q0, .inr (7, [.null]))] ++ ([(q1, .inr (15, [.int 0, .null, .int 0]))] ++ [])) := hD
  refine cWI [(q0, .inr (7, [.null]))] [(q1, .inr (15, [.int 0, .null, .int 0]))] [] (As := []) ⟨hx, hb, hml, hown, hts⟩ hOK hz hS hA hP hD (mtJ2_init l D k Z hOK hLs q1) (kJ2_init hts q1314 rfl rfl ⟨Nat.le_of_ble_eq_true rfl, Nat.le_of_ble_eq_true rfl⟩) rfl hl.1 rfl (lv_room (Nat.le_of_ble_eq_true rfl)) ⟨(Nat.le_of_ble_eq_true rfl), (Nat.le_of_ble_eq_true rfl)⟩ dX8_init_9 (fun r_ w_ H locs hq hP hD hS => ?_)
  obtain ⟨rfl, rfl⟩ := hq
  have hP : va_P D zCl ([(q0, .inr (7, [.null]))] ++ ([lsO q1 e0 0 0])) _ := hP
  have hD : va_D A ([(q0, .inr (7, [.null]))] ++ ([lsO q1 e0 0 0])) := hD
  refine va_putF (ci := 7) (v := .ref q1) (ty := tyX8 0) (C := RX8) (T := TX8) (N := 1) hx hb hts in_X8 tyX8 tyX8_ok nmX8 hown hK hP hD hS 0 rfl rfl 0 (by decide) (hts _ q1315) (fun _ h9 => h9) rfl hname rfl (tyX8_ok 0 (by decide)) rfl rfl (Nat.le_of_ble_eq_true rfl) dX8_init_12 (fun H locs hP hD hS => ?_)
  have hP : va_P D zCl ([(q0, .inr (7, [.ref q1]))] ++ ([lsO q1 e0 0 0])) _ := hP
  have hD : va_D A ([(q0, .inr (7, [.ref q1]))] ++ ([lsO q1 e0 0 0])) := hD
  exact retW_v hx hb hr hlocks hP hD hS ⟨_, rfl, rfl⟩ dX8_init_15
