/-! WRONG -/
theorem va_gq {C n d : String} {A : Nat → Prop} {U : State} {H : Heap} (h : va_Zq C n d A U H) : ∃ x : Option Nat, va_Z C n d (va_rf x) A U H := by
  rcases h with h | ⟨t, h⟩
  · exact ⟨none, h⟩
  · exact ⟨some t, h⟩
theorem q_narA {T : FieldType} (x : Option Nat) : narrow (.array T) (va_rf x) = va_rf x := by cases x <;> rfl
theorem q_fitA {T : FieldType} (x : Option Nat) : fits (.array T) (va_rf x) = true := by cases x <;> rfl
def wrC (q : Nat) : Nat × va_E := (q, .inr (6, [.null, .null, .null, .null, .null, .int 0]))
def rJ12_init_3 : Room := { frames := 1, cells := 0, slots := 0, locals := 30 }
theorem kJ12_init_3 {R : Room} {s : State} {args : Array Value} {own : String} {idx mc ms : Nat} {rm : Room} (hts : ∀ w ∈ lw_all, w.before args s = true) (hl : Cond.methodLink own idx yJ12_init_3 ∈ lw_all) (hrc : rm.cells = mc) (hrs : rm.slots = ms) (hR : rm.frames + 1 ≤ R.frames ∧ 8 + (5 + 11) + rm.locals ≤ R.locals) : CallB R s args own idx yJ12_init_3 cJ12_init_3 5 none (ws_ yJ12_init_3 cJ12_init_3 5 none) rm mc ms 4 ∧ yJ12_init_3.name = "<init>" ∧ (Cond.instanceMethod yJ12_init_3).before args s = true :=
  cwI 4 hts (lw_meth q1134) rfl hrc hrs (hts _ q126) (hts _ hl) (hts _ q1133) rfl (by decide +kernel) hR
set_option maxRecDepth 100000 in
theorem mtJ12_init_3 (l : Launch) (D : va_G) (k : Nat → ClassId) (Z : zZ) (hOK : zOK D zCl (zTys k) Z) (hTh : zTh Z) (q : Nat) : CtW l yJ12_init_3 cJ12_init_3 5 none rJ12_init_3 Z D zCl [wrC q] [.ref q, .null, .null, .int 0, .int 0] (fun r' w' => r' = none ∧ w' = [wrC q]) 0 0 := by
  refine CtW.of (by decide) (Nat.le_of_ble_eq_true rfl) ?_
  intro p e9 s m args below meth c A hE hA hP hD hS hz ls hl
  obtain ⟨hx, hb, hr, hml, hown, hts, hlocks, hname⟩ := hE
  have hown : s.vm.findClass RJ12 = some m.cls := hown
  have hK := hOK.1 _ _ _ hz
  have hN := hOK.2.1 _ _ _ hz
  have hl : lv_has ls 5 [(0, .ref q), (1, .null), (2, .null), (3, .int 0), (4, .int 0)] := hl
  refine lv_aload_n hx hb dJ12_init_3_0 rfl (lv_at hl 0 rfl) ?_
  refine W.objInit hx hb hown (hts _ q967) (hts _ q154) (hts _ q155) rfl (by rw [hml]; exact hl.1) rfl dJ12_init_3_1 (Nat.le_of_ble_eq_true rfl) (Nat.le_of_ble_eq_true rfl) ?_
  refine W.eq (g2 := F0 m 4 ls []) rfl ?_
  obtain ⟨x1, hx1⟩ := va_gq (hTh _ _ _ hz).1.1
  obtain ⟨x2, hx2⟩ := va_gq (hTh _ _ _ hz).2.1
  refine lv_aload_n hx hb dJ12_init_3_4 rfl (lv_at hl 0 rfl) ?_
  refine lv_aload_n hx hb dJ12_init_3_5 rfl (lv_at hl 0 rfl) ?_
  refine va_put (ci := 6) (v := .ref q) (ty := tyX7 0) (C := RX7) (T := TX7) (N := 6) hx hb hts in_X7 tyX7 tyX7_ok nmX7 hown hK hP hD hS 0 rfl rfl 0 (by decide) (hts _ q1076) (fun _ h9 => h9) rfl (tyX7_ok 0 (by decide)) rfl rfl (Nat.le_of_ble_eq_true rfl) dJ12_init_3_6 (fun H locs hP hD hS => ?_)
  have hP : va_P D zCl [(q, .inr (6, [.ref q, .null, .null, .null, .null, .int 0]))] _ := hP
  have hD : va_D A [(q, .inr (6, [.ref q, .null, .null, .null, .null, .int 0]))] := hD
  refine lv_aload_n hx hb dJ12_init_3_9 rfl (lv_at hl 0 rfl) ?_
  refine va_gets hx hb hx1 hS hown (hts _ q968) (fun _ h9 => h9) dJ12_init_3_10 ?_
  refine va_put (ci := 6) (v := va_rf x1) (ty := tyX7 1) (C := RX7) (T := TX7) (N := 6) hx hb hts in_X7 tyX7 tyX7_ok nmX7 hown hK hP hD hS 0 rfl rfl 1 (by decide) (hts _ q1077) (fun _ h9 => h9) rfl (tyX7_ok 1 (by decide)) (q_narA _) (q_fitA _) (Nat.le_of_ble_eq_true rfl) dJ12_init_3_13 (fun H locs hP hD hS => ?_)
  have hP : va_P D zCl [(q, .inr (6, [.ref q, va_rf x1, .null, .null, .null, .int 0]))] _ := hP
  have hD : va_D A [(q, .inr (6, [.ref q, va_rf x1, .null, .null, .null, .int 0]))] := hD
  refine lv_aload_n hx hb dJ12_init_3_16 rfl (lv_at hl 0 rfl) ?_
  refine va_gets hx hb hx2 hS hown (hts _ q970) (fun _ h9 => h9) dJ12_init_3_17 ?_
  refine va_put (ci := 6) (v := va_rf x2) (ty := tyX7 2) (C := RX7) (T := TX7) (N := 6) hx hb hts in_X7 tyX7 tyX7_ok nmX7 hown hK hP hD hS 0 rfl rfl 2 (by decide) (hts _ q1078) (fun _ h9 => h9) rfl (tyX7_ok 2 (by decide)) (q_nar _) (q_fit _) (Nat.le_of_ble_eq_true rfl) dJ12_init_3_20 (fun H locs hP hD hS => ?_)
  have hP : va_P D zCl [(q, .inr (6, [.ref q, va_rf x1, va_rf x2, .null, .null, .int 0]))] _ := hP
  have hD : va_D A [(q, .inr (6, [.ref q, va_rf x1, va_rf x2, .null, .null, .int 0]))] := hD
  refine lv_iload hx hb dJ12_init_3_23 (lv_at hl 4 rfl) ?_
  refine lv_if_eq (tgt := 36) hx hb dJ12_init_3_25 (by decide) (fun _ => ?_) (fun c1 => absurd rfl c1)
  refine lv_aload_n hx hb dJ12_init_3_36 rfl (lv_at hl 0 rfl) ?_
  refine lv_null hx hb dJ12_init_3_37 ?_
  refine va_put (ci := 6) (v := .null) (ty := tyX7 1) (C := RX7) (T := TX7) (N := 6) hx hb hts in_X7 tyX7 tyX7_ok nmX7 hown hK hP hD hS 0 rfl rfl 1 (by decide) (hts _ q1077) (fun _ h9 => h9) rfl (tyX7_ok 1 (by decide)) rfl rfl (Nat.le_of_ble_eq_true rfl) dJ12_init_3_38 (fun H locs hP hD hS => ?_)
  have hP : va_P D zCl [(q, .inr (6, [.ref q, .null, va_rf x2, .null, .null, .int 0]))] _ := hP
  have hD : va_D A [(q, .inr (6, [.ref q, .null, va_rf x2, .null, .null, .int 0]))] := hD
  refine lv_aload_n hx hb dJ12_init_3_41 rfl (lv_at hl 0 rfl) ?_
  refine lv_aload_nN hx hb dJ12_init_3_42 rfl (lv_at hl 1 rfl) ?_
  refine va_put (ci := 6) (v := .null) (ty := tyX7 3) (C := RX7) (T := TX7) (N := 6) hx hb hts in_X7 tyX7 tyX7_ok nmX7 hown hK hP hD hS 0 rfl rfl 3 (by decide) (hts _ q1075) (fun _ h9 => h9) rfl (tyX7_ok 3 (by decide)) rfl rfl (Nat.le_of_ble_eq_true rfl) dJ12_init_3_43 (fun H locs hP hD hS => ?_)
  have hP : va_P D zCl [(q, .inr (6, [.ref q, .null, va_rf x2, .null, .null, .int 0]))] _ := hP
  have hD : va_D A [(q, .inr (6, [.ref q, .null, va_rf x2, .null, .null, .int 0]))] := hD
  refine lv_aload_n hx hb dJ12_init_3_46 rfl (lv_at hl 0 rfl) ?_
  refine lv_aload_nN hx hb dJ12_init_3_47 rfl (lv_at hl 2 rfl) ?_
  refine va_put (ci := 6) (v := .null) (ty := tyX7 0) (C := RX7) (T := TX7) (N := 6) hx hb hts in_X7 tyX7 tyX7_ok nmX7 hown hK hP hD hS 0 rfl rfl 0 (by decide) (hts _ q1076) (fun _ h9 => h9) rfl (tyX7_ok 0 (by decide)) rfl rfl (Nat.le_of_ble_eq_true rfl) dJ12_init_3_48 (fun H locs hP hD hS => ?_)
  have hP : va_P D zCl [(q, .inr (6, [.null, .null, va_rf x2, .null, .null, .int 0]))] _ := hP
  have hD : va_D A [(q, .inr (6, [.null, .null, va_rf x2, .null, .null, .int 0]))] := hD
  refine lv_iload_n hx hb dJ12_init_3_51 rfl (lv_at hl 3 rfl) ?_
  refine lv_if_ne (tgt := 60) hx hb dJ12_init_3_52 (by decide) (fun c1 => absurd rfl c1) (fun _ => ?_)
  refine lv_aload_n hx hb dJ12_init_3_55 rfl (lv_at hl 0 rfl) ?_
  refine lv_null hx hb dJ12_init_3_56 ?_
  refine va_put (ci := 6) (v := .null) (ty := tyX7 2) (C := RX7) (T := TX7) (N := 6) hx hb hts in_X7 tyX7 tyX7_ok nmX7 hown hK hP hD hS 0 rfl rfl 2 (by decide) (hts _ q1078) (fun _ h9 => h9) rfl (tyX7_ok 2 (by decide)) rfl rfl (Nat.le_of_ble_eq_true rfl) dJ12_init_3_57 (fun H locs hP hD hS => ?_)
  have hP : va_P D zCl [(q, .inr (6, [.null, .null, .null, .null, .null, .int 0]))] _ := hP
  have hD : va_D A [(q, .inr (6, [.null, .null, .null, .null, .null, .int 0]))] := hD
  exact retW_v hx hb hr hlocks hP hD hS ⟨rfl, rfl⟩ dJ12_init_3_60
def rJ13_init_2 : Room := { frames := 2, cells := 0, slots := 0, locals := 60 }
theorem kJ13_init_2 {R : Room} {s : State} {args : Array Value} {own : String} {idx mc ms : Nat} {rm : Room} (hts : ∀ w ∈ lw_all, w.before args s = true) (hl : Cond.methodLink own idx yJ13_init_2 ∈ lw_all) (hrc : rm.cells = mc) (hrs : rm.slots = ms) (hR : rm.frames + 1 ≤ R.frames ∧ 8 + (5 + 11) + rm.locals ≤ R.locals) : CallB R s args own idx yJ13_init_2 cJ13_init_2 5 none (ws_ yJ13_init_2 cJ13_init_2 5 none) rm mc ms 4 ∧ yJ13_init_2.name = "<init>" ∧ (Cond.instanceMethod yJ13_init_2).before args s = true :=
  cwI 4 hts (lw_meth q1131) rfl hrc hrs (hts _ q127) (hts _ hl) (hts _ q1130) rfl (by decide +kernel) hR
set_option maxRecDepth 100000 in
theorem mtJ13_init_2 (l : Launch) (D : va_G) (k : Nat → ClassId) (Z : zZ) (hOK : zOK D zCl (zTys k) Z) (hTh : zTh Z) (q : Nat) : CtW l yJ13_init_2 cJ13_init_2 5 none rJ13_init_2 Z D zCl [wrC q] [.ref q, .null, .null, .int 0, .int 0] (fun r' w' => r' = none ∧ w' = [wrC q]) 0 0 := by
  refine CtW.of (by decide) (Nat.le_of_ble_eq_true rfl) ?_
  intro p e9 s m args below meth c A hE hA hP hD hS hz ls hl
  obtain ⟨hx, hb, hr, hml, hown, hts, hlocks, hname⟩ := hE
  have hown : s.vm.findClass RJ13 = some m.cls := hown
  have hK := hOK.1 _ _ _ hz
  have hN := hOK.2.1 _ _ _ hz
  have hl : lv_has ls 5 [(0, .ref q), (1, .null), (2, .null), (3, .int 0), (4, .int 0)] := hl
  refine lv_aload_n hx hb dJ13_init_2_0 rfl (lv_at hl 0 rfl) ?_
  refine lv_aload_nN hx hb dJ13_init_2_1 rfl (lv_at hl 1 rfl) ?_
  refine lv_aload_nN hx hb dJ13_init_2_2 rfl (lv_at hl 2 rfl) ?_
  refine lv_iload_n hx hb dJ13_init_2_3 rfl (lv_at hl 3 rfl) ?_
  refine lv_iload hx hb dJ13_init_2_4 (lv_at hl 4 rfl) ?_
  have hP : va_P D zCl ([] ++ ([wrC q] ++ [])) _ := hP
  have hD : va_D A ([] ++ ([wrC q] ++ [])) := hD
  refine cWI [] [wrC q] [] (As := [.null, .null, .int 0, .int 0]) ⟨hx, hb, hml, hown, hts⟩ hOK hz hS hA hP hD (mtJ12_init_3 l D k Z hOK hTh q) (kJ12_init_3 hts q1132 rfl rfl ⟨Nat.le_of_ble_eq_true rfl, Nat.le_of_ble_eq_true rfl⟩) rfl hl.1 rfl (lv_room (Nat.le_of_ble_eq_true rfl)) ⟨(Nat.le_of_ble_eq_true rfl), (Nat.le_of_ble_eq_true rfl)⟩ dJ13_init_2_6 (fun r_ w_ H locs hq hP hD hS => ?_)
  obtain ⟨rfl, rfl⟩ := hq
  have hP : va_P D zCl [wrC q] _ := hP
  have hD : va_D A [wrC q] := hD
  exact retW_v hx hb hr hlocks hP hD hS ⟨rfl, rfl⟩ dJ13_init_2_9
def rX7_init : Room := { frames := 3, cells := 0, slots := 0, locals := 90 }
theorem kX7_init {R : Room} {s : State} {args : Array Value} {own : String} {idx mc ms : Nat} {rm : Room} (hts : ∀ w ∈ lw_all, w.before args s = true) (hl : Cond.methodLink own idx yX7_init ∈ lw_all) (hrc : rm.cells = mc) (hrs : rm.slots = ms) (hR : rm.frames + 1 ≤ R.frames ∧ 8 + (1 + 11) + rm.locals ≤ R.locals) : CallB R s args own idx yX7_init cX7_init 1 none (ws_ yX7_init cX7_init 1 none) rm mc ms 0 ∧ yX7_init.name = "<init>" ∧ (Cond.instanceMethod yX7_init).before args s = true :=
  cwI 0 hts (lw_meth q1128) rfl hrc hrs (hts _ q132) (hts _ hl) (hts _ q1127) rfl (by decide +kernel) hR
set_option maxRecDepth 100000 in
theorem mtX7_init (l : Launch) (D : va_G) (k : Nat → ClassId) (Z : zZ) (hOK : zOK D zCl (zTys k) Z) (hTh : zTh Z) (q : Nat) : CtW l yX7_init cX7_init 1 none rX7_init Z D zCl [wrC q] [.ref q] (fun r' w' => r' = none ∧ w' = [wrC q]) 0 0 := by
  refine CtW.of (by decide) (Nat.le_of_ble_eq_true rfl) ?_
  intro p e9 s m args below meth c A hE hA hP hD hS hz ls hl
  obtain ⟨hx, hb, hr, hml, hown, hts, hlocks, hname⟩ := hE
  have hown : s.vm.findClass RX7 = some m.cls := hown
  have hK := hOK.1 _ _ _ hz
  have hN := hOK.2.1 _ _ _ hz
  have hl : lv_has ls 1 [(0, .ref q)] := hl
  refine lv_aload_n hx hb dX7_init_0 rfl (lv_at hl 0 rfl) ?_
  refine lv_null hx hb dX7_init_1 ?_
  refine lv_null hx hb dX7_init_2 ?_
  refine lv_iconst (v := (0 : Int32)) hx hb dX7_init_3 (by decide) ?_
  refine lv_iconst (v := (0 : Int32)) hx hb dX7_init_4 (by decide) ?_
  have hP : va_P D zCl ([] ++ ([wrC q] ++ [])) _ := hP
  have hD : va_D A ([] ++ ([wrC q] ++ [])) := hD
  refine cWI [] [wrC q] [] (As := [.null, .null, .int 0, .int 0]) ⟨hx, hb, hml, hown, hts⟩ hOK hz hS hA hP hD (mtJ13_init_2 l D k Z hOK hTh q) (kJ13_init_2 hts q1129 rfl rfl ⟨Nat.le_of_ble_eq_true rfl, Nat.le_of_ble_eq_true rfl⟩) rfl hl.1 rfl (lv_room (Nat.le_of_ble_eq_true rfl)) ⟨(Nat.le_of_ble_eq_true rfl), (Nat.le_of_ble_eq_true rfl)⟩ dX7_init_5 (fun r_ w_ H locs hq hP hD hS => ?_)
  obtain ⟨rfl, rfl⟩ := hq
  have hP : va_P D zCl [wrC q] _ := hP
  have hD : va_D A [wrC q] := hD
  exact retW_v hx hb hr hlocks hP hD hS ⟨rfl, rfl⟩ dX7_init_8
def rX3_wrong : Room := { frames := 4, cells := 1, slots := 6, locals := 120 }
theorem kX3_wrong {R : Room} {s : State} {args : Array Value} {own : String} {idx mc ms : Nat} {rm : Room} (hts : ∀ w ∈ lw_all, w.before args s = true) (hl : Cond.methodLink own idx yX3_wrong ∈ lw_all) (hrc : rm.cells = mc) (hrs : rm.slots = ms) (hR : rm.frames + 1 ≤ R.frames ∧ 8 + (1 + 11) + rm.locals ≤ R.locals) : CallW R s args own RX3 idx yX3_wrong cX3_wrong 1 (some (.object "SaturdayKeep$Wrong")) (ws_ yX3_wrong cX3_wrong 1 (some (.object "SaturdayKeep$Wrong"))) rm mc ms 0 :=
  cwV 0 hts (lw_V hl q1114 q1115 q109 q1116) rfl hrc hrs (by decide +kernel) hR
set_option maxRecDepth 100000 in
theorem mtX3_wrong (l : Launch) (D : va_G) (k : Nat → ClassId) (Z : zZ) (hOK : zOK D zCl (zTys k) Z) (hTh : zTh Z) (q : Nat) : CtW l yX3_wrong cX3_wrong 1 (some (.object "SaturdayKeep$Wrong")) rX3_wrong Z D zCl [] [.ref q] (fun r' w' => ∃ qw, r' = some (.ref qw) ∧ w' = [wrC qw]) 1 6 := by
  refine CtW.of (by decide) (Nat.le_of_ble_eq_true rfl) ?_
  intro p e9 s m args below meth c A hE hA hP hD hS hz ls hl
  obtain ⟨hx, hb, hr, hml, hown, hts, hlocks, hname⟩ := hE
  have hown : s.vm.findClass RX3 = some m.cls := hown
  have hK := hOK.1 _ _ _ hz
  have hN := hOK.2.1 _ _ _ hz
  have hl : lv_has ls 1 [(0, .ref q)] := hl
  refine va_new (ci := 6) (fs := [.null, .null, .null, .null, .null, .int 0]) (C := RX7) (T := TX7) (N := 6) hx hb hts in_X7 tyX7 tyX7_ok hown (hts _ q1117) (hts _ q1118) (hts _ q132) hK hP hD hS hA rfl (zdef 6 tyX7) (Nat.le_of_ble_eq_true rfl) (Nat.le_of_ble_eq_true rfl) dX3_wrong_0 (fun qw H hP hD hS => ?_)
  refine lv_dup hx hb dX3_wrong_3 rfl ?_
  have hP : va_P D zCl ([] ++ ([wrC qw] ++ [])) _ := hP
  have hD : va_D A ([] ++ ([wrC qw] ++ [])) := hD
  refine cWI [] [wrC qw] [] (As := []) ⟨hx, hb, hml, hown, hts⟩ hOK hz hS hA hP hD (mtX7_init l D k Z hOK hTh qw) (kX7_init hts q1126 rfl rfl ⟨Nat.le_of_ble_eq_true rfl, Nat.le_of_ble_eq_true rfl⟩) rfl hl.1 rfl (lv_room (Nat.le_of_ble_eq_true rfl)) ⟨(Nat.le_of_ble_eq_true rfl), (Nat.le_of_ble_eq_true rfl)⟩ dX3_wrong_4 (fun r_ w_ H locs hq hP hD hS => ?_)
  obtain ⟨rfl, rfl⟩ := hq
  have hP : va_P D zCl [wrC qw] _ := hP
  have hD : va_D A [wrC qw] := hD
  exact retW_a hx hb hr (Or.inl ⟨_, rfl⟩) hlocks hP hD hS ⟨qw, rfl, rfl⟩ dX3_wrong_7
