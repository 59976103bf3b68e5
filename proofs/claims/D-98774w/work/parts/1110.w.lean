/-! walks: X6_hole, X6_bath, X6_keep, X6_masons, X6_buy, X6_calm, X6_gone, X6_mend -/
def rX6_hole : Room := { frames := 2, cells := 0, slots := 0, locals := 44 }
noncomputable def fX6_hole (t : Tw) (p1 : Int32) (p2 : Int32) (p3 : Bool) : Option (Bool × Tw) :=
  mob (fX6_isRoom p1) fun r_2 =>
  mjn (fun (y_5 : Int32) =>
  mlt (tw_s_thrown t y_5) fun t_7 =>
  if (tw_thrown t_7) ≤ (0 : Int32) then
    mob (fX6_isHole t_7 p1 p2) fun r_10 =>
    mjn (fun (y_13 : Int32) =>
    mo2 (fX6_sets t_7 ((16 : Int32) + p1) y_13) fun r_17 t_16 =>
    if (bz r_10) = (bz p3) then
      some (false, t_16)
    else
      some (true, t_16)) fun K_14 =>
    if p3 = true then
      mck ((16 : Int32) + p1) 704 <|
      K_14 (((tw_m t_7) (Int32.toNatClampNeg ((16 : Int32) + p1))) ||| ((1 : Int32) <<< (p2 &&& (31 : Int32))))
    else
      mck ((16 : Int32) + p1) 704 <|
      K_14 (((tw_m t_7) (Int32.toNatClampNeg ((16 : Int32) + p1))) &&& (((1 : Int32) <<< (p2 &&& (31 : Int32))) ^^^ (-1 : Int32)))
  else
    some (false, t_7)) fun K_6 =>
  if r_2 = true then
    mob (fX6_isRoom p2) fun r_22 =>
    if r_22 = true then
      if p1 = p2 then
        K_6 (2 : Int32)
      else
        K_6 (0 : Int32)
    else
      K_6 (1 : Int32)
  else
    K_6 (1 : Int32)
theorem kX6_hole {R : Room} {s : State} {args : Array Value} {own : String} {idx mc ms : Nat} {rm : Room} (hts : ∀ w ∈ lw_all, w.before args s = true) (hl : Cond.methodLink own idx yX6_hole ∈ lw_all) (hrc : rm.cells = mc) (hrs : rm.slots = ms) (hR : rm.frames + 1 ≤ R.frames ∧ 8 + (6 + 11) + rm.locals ≤ R.locals) : CallW R s args own RX6 idx yX6_hole cX6_hole 6 (some .boolean) (ws_ yX6_hole cX6_hole 6 (some .boolean)) rm mc ms 3 :=
  cwV 3 hts (lw_V hl q2226 q2227 q115 q2228) rfl hrc hrs (by decide +kernel) hR
set_option maxHeartbeats 4000000 in
set_option maxRecDepth 100000 in
theorem mtX6_hole (l : Launch) (D : va_G) (k : Nat → ClassId) (a : Nat → Nat) (Z : zZ) (hOK : zOK D zCl (zTys k) Z) (t : Tw) (p1 : Int32) (p2 : Int32) (p3 : Bool) (r : Bool) (tt : Tw) (hrun : fX6_hole t p1 p2 p3 = some (r, tt)) :
    CtW l yX6_hole cX6_hole 6 (some .boolean) rX6_hole Z D zCl (cT k a t) [.ref (a 0), .int p1, .int p2, .int (bz p3)] (fun r' w' => r' = (some (.int (bz r))) ∧ w' = cT k a tt) 0 0 := by
  refine CtW.of (by decide) (Nat.le_of_ble_eq_true rfl) ?_
  intro p e s m args below meth c A hE hA hP hD hS hz ls hl
  obtain ⟨hx, hb, hr, hml, hown, hts, hlocks, hname⟩ := hE
  have hown : s.vm.findClass RX6 = some m.cls := hown
  have hK := hOK.1 _ _ _ hz
  have hl : lv_has ls 6 [(0, .ref (a 0)), (1, .int p1), (2, .int p2), (3, .int (bz p3))] := hl
  unfold fX6_hole at hrun
  refine lv_aload_n hx hb dX6_hole_0 rfl (lv_at hl 0 rfl) ?_
  refine lv_iload_n hx hb dX6_hole_1 rfl (lv_at hl 1 rfl) ?_
  obtain ⟨r_2, hc_1, hrun⟩ := mob_s rfl hrun
  refine cRS (ws := []) (As := [.int p1]) ⟨hx, hb, hml, hown, hts⟩ hOK hz hS zP0 (mtX6_isRoom l D Z hOK _ _ hc_1) (kX6_isRoom hts q2182 rfl rfl ⟨Nat.le_of_ble_eq_true rfl, Nat.le_of_ble_eq_true rfl⟩) rfl hl.1 rfl (lv_room (Nat.le_of_ble_eq_true rfl)) ⟨Nat.le_of_ble_eq_true rfl, Nat.le_of_ble_eq_true rfl⟩ dX6_hole_2 ?_
  obtain ⟨K_6, hK_6, hrun⟩ := mjn_s hrun
  have hj_4 : ∀ (y_5 : Int32), ∀ (H : Heap) (locs : List Loc), va_P D zCl (cT k a t) H → va_D A (cT k a t) → va_S A s.heap H locs → ∀ ls : Array Slot, lv_has ls 6 [(0, .ref (a 0)), (1, .int p1), (2, .int p2), (3, .int (bz p3))] → K_6 y_5 = some (r, tt) → W p l e rX6_hole s m args below meth c H locs 0 0 (MQ below (QWr (fun r' w' => r' = (some (.int (bz r))) ∧ w' = cT k a tt) D zCl A) args s 0 0 A) (F0 m 29 ls [.int y_5, .ref (a 0)]) := by
    intro y_5 H locs hP hD hS ls hl hrun
    rw [hK_6] at hrun
    refine va_put (ci := 0) (v := .int y_5) (ty := tyX6 0) (C := RX6) (T := TX6) (N := 22) hx hb hts in_X6 tyX6 tyX6_ok nmX6 hown hK hP hD hS 0 rfl rfl 0 (by decide) (hts _ q1902) (fun _ h9 => h9) rfl (tyX6_ok 0 (by decide)) rfl rfl (Nat.le_of_ble_eq_true rfl) dX6_hole_29 (fun H locs hP hD hS => ?_)
    have hP : va_P D zCl (cT k a (tw_s_thrown t y_5)) H := hP
    have hD : va_D A (cT k a (tw_s_thrown t y_5)) := hD
    obtain ⟨t_7, et_7⟩ : ∃ z : Tw, z = (tw_s_thrown t y_5) := ⟨_, rfl⟩
    rw [← et_7] at hP hD
    have hrun := mlt_s hrun t_7 et_7
    refine lv_aload_n hx hb dX6_hole_32 rfl (lv_at hl 0 rfl) ?_
    refine va_get (ci := 0) (v := .int (tw_thrown t_7)) (C := RX6) (T := TX6) (N := 22) hx hb hts in_X6 hown hK hP 0 rfl rfl 0 (by decide) (hts _ q1902) (fun _ h9 => h9) rfl dX6_hole_33 ?_
    refine lv_if_le (tgt := 41) hx hb dX6_hole_36 (by decide) (fun c_8 => ?_) (fun c_8 => ?_)
    · have hrun := mif_p c_8 hrun
      refine lv_aload_n hx hb dX6_hole_41 rfl (lv_at hl 0 rfl) ?_
      refine lv_iload_n hx hb dX6_hole_42 rfl (lv_at hl 1 rfl) ?_
      refine lv_iload_n hx hb dX6_hole_43 rfl (lv_at hl 2 rfl) ?_
      obtain ⟨r_10, hc_9, hrun⟩ := mob_s rfl hrun
      refine cRV (As := [.int p1, .int p2]) (ci := 0) ⟨hx, hb, hml, hown, hts⟩ hOK hz hS hP (mtX6_isHole l D k a Z hOK _ _ _ _ hc_9) (kX6_isHole hts q2171 rfl rfl ⟨Nat.le_of_ble_eq_true rfl, Nat.le_of_ble_eq_true rfl⟩) 0 rfl rfl rfl hl.1 rfl (lv_room (Nat.le_of_ble_eq_true rfl)) ⟨Nat.le_of_ble_eq_true rfl, Nat.le_of_ble_eq_true rfl⟩ dX6_hole_44 ?_
      refine lv_istore (lv' := [(4, .int (bz r_10)), (0, .ref (a 0)), (1, .int p1), (2, .int p2), (3, .int (bz p3))]) hx hb dX6_hole_47 hl (by decide) rfl (fun ls hl => ?_)
      refine lv_aload_n hx hb dX6_hole_49 rfl (lv_at hl 1 rfl) ?_
      refine lv_bipush (v := (16 : Int32)) hx hb dX6_hole_50 (by decide) ?_
      refine lv_iload_n hx hb dX6_hole_52 rfl (lv_at hl 2 rfl) ?_
      refine lv_iadd hx hb dX6_hole_53 ?_
      refine lv_iload_n hx hb dX6_hole_54 rfl (lv_at hl 4 rfl) ?_
      obtain ⟨K_14, hK_14, hrun⟩ := mjn_s hrun
      have hj_12 : ∀ (y_13 : Int32), ∀ (H : Heap) (locs : List Loc), va_P D zCl (cT k a t_7) H → va_D A (cT k a t_7) → va_S A s.heap H locs → ∀ ls : Array Slot, lv_has ls 6 [(3, .int (bz p3)), (4, .int (bz r_10))] → K_14 y_13 = some (r, tt) → W p l e rX6_hole s m args below meth c H locs 0 0 (MQ below (QWr (fun r' w' => r' = (some (.int (bz r))) ∧ w' = cT k a tt) D zCl A) args s 0 0 A) (F0 m 89 ls [.int y_13, .int ((16 : Int32) + p1), .ref (a 0)]) := by
        intro y_13 H locs hP hD hS ls hl hrun
        rw [hK_14] at hrun
        obtain ⟨r_17, t_16, hc_15, hrun⟩ := mo2_s rfl hrun
        refine cWV00 (As := [.int ((16 : Int32) + p1), .int y_13]) (ci := 0) ⟨hx, hb, hml, hown, hts⟩ hOK hz hS hA hP hD (mtX6_sets l D k a Z hOK _ _ _ _ _ hc_15) (kX6_sets hts q2209 rfl rfl ⟨Nat.le_of_ble_eq_true rfl, Nat.le_of_ble_eq_true rfl⟩) 0 rfl rfl rfl hl.1 rfl (lv_room (Nat.le_of_ble_eq_true rfl)) ⟨Nat.le_of_ble_eq_true rfl, Nat.le_of_ble_eq_true rfl⟩ dX6_hole_89 (fun r_ w_ H locs hq hP hD hS => ?_)
        obtain ⟨rfl, rfl⟩ := hq
        refine lv_istore (lv' := [(5, .int r_17), (3, .int (bz p3)), (4, .int (bz r_10))]) hx hb dX6_hole_92 hl (by decide) rfl (fun ls hl => ?_)
        refine lv_iload hx hb dX6_hole_94 (lv_at hl 2 rfl) ?_
        refine lv_iload_n hx hb dX6_hole_96 rfl (lv_at hl 1 rfl) ?_
        refine lv_icmp_eq (tgt := 104) hx hb dX6_hole_97 (by decide) (fun c_18 => ?_) (fun c_18 => ?_)
        · have hrun := mif_p c_18 hrun
          refine lv_iconst (v := (0 : Int32)) hx hb dX6_hole_104 (by decide) ?_
          cases hrun
          exact retW_z (v := false) hx hb hr hlocks hP hD hS ⟨rfl, rfl⟩ dX6_hole_105
        have hrun := mif_n c_18 hrun
        refine lv_iconst (v := (1 : Int32)) hx hb dX6_hole_100 (by decide) ?_
        refine lv_goto (tgt := 105) hx hb dX6_hole_101 (by decide) ?_
        cases hrun
        exact retW_z (v := true) hx hb hr hlocks hP hD hS ⟨rfl, rfl⟩ dX6_hole_105
      refine lv_if_eq (tgt := 74) hx hb dX6_hole_55 (by decide) (fun c_11 => ?_) (fun c_11 => ?_)
      · have hrun := mif_n (bz_z c_11) hrun
        refine lv_aload_n hx hb dX6_hole_74 rfl (lv_at hl 1 rfl) ?_
        refine va_get (ci := 0) (v := .ref (a 1)) (C := RX6) (T := TX6) (N := 22) hx hb hts in_X6 hown hK hP 0 rfl rfl 1 (by decide) (hts _ q1903) (fun _ h9 => h9) rfl dX6_hole_75 ?_
        refine lv_bipush (v := (16 : Int32)) hx hb dX6_hole_78 (by decide) ?_
        refine lv_iload_n hx hb dX6_hole_80 rfl (lv_at hl 2 rfl) ?_
        refine lv_iadd hx hb dX6_hole_81 ?_
        obtain ⟨hb_19, hrun⟩ := mck_s rfl hrun
        refine va_iald hx hb hK hP 1 0 rfl rfl hb_19 dX6_hole_82 ?_
        refine lv_iconst (v := (1 : Int32)) hx hb dX6_hole_83 (by decide) ?_
        refine lv_iload_n hx hb dX6_hole_84 rfl (lv_at hl 3 rfl) ?_
        refine lv_ishl hx hb dX6_hole_85 ?_
        refine lv_iconst (v := (-1 : Int32)) hx hb dX6_hole_86 (by decide) ?_
        refine lv_ixor hx hb dX6_hole_87 ?_
        refine lv_iand hx hb dX6_hole_88 ?_
        exact hj_12 (((tw_m t_7) (Int32.toNatClampNeg ((16 : Int32) + p1))) &&& (((1 : Int32) <<< (p2 &&& (31 : Int32))) ^^^ (-1 : Int32))) _ _ hP hD hS ls (lv_sub hl [4, 0] rfl) hrun
      have hrun := mif_p (bz_nz c_11) hrun
      refine lv_aload_n hx hb dX6_hole_58 rfl (lv_at hl 1 rfl) ?_
      refine va_get (ci := 0) (v := .ref (a 1)) (C := RX6) (T := TX6) (N := 22) hx hb hts in_X6 hown hK hP 0 rfl rfl 1 (by decide) (hts _ q1903) (fun _ h9 => h9) rfl dX6_hole_59 ?_
      refine lv_bipush (v := (16 : Int32)) hx hb dX6_hole_62 (by decide) ?_
      refine lv_iload_n hx hb dX6_hole_64 rfl (lv_at hl 2 rfl) ?_
      refine lv_iadd hx hb dX6_hole_65 ?_
      obtain ⟨hb_20, hrun⟩ := mck_s rfl hrun
      refine va_iald hx hb hK hP 1 0 rfl rfl hb_20 dX6_hole_66 ?_
      refine lv_iconst (v := (1 : Int32)) hx hb dX6_hole_67 (by decide) ?_
      refine lv_iload_n hx hb dX6_hole_68 rfl (lv_at hl 3 rfl) ?_
      refine lv_ishl hx hb dX6_hole_69 ?_
      refine lv_ior hx hb dX6_hole_70 ?_
      refine lv_goto (tgt := 89) hx hb dX6_hole_71 (by decide) ?_
      exact hj_12 (((tw_m t_7) (Int32.toNatClampNeg ((16 : Int32) + p1))) ||| ((1 : Int32) <<< (p2 &&& (31 : Int32)))) _ _ hP hD hS ls (lv_sub hl [4, 0] rfl) hrun
    have hrun := mif_n c_8 hrun
    refine lv_iconst (v := (0 : Int32)) hx hb dX6_hole_39 (by decide) ?_
    cases hrun
    exact retW_z (v := false) hx hb hr hlocks hP hD hS ⟨rfl, rfl⟩ dX6_hole_40
  refine lv_if_eq (tgt := 15) hx hb dX6_hole_5 (by decide) (fun c_3 => ?_) (fun c_3 => ?_)
  · have hrun := mif_n (bz_z c_3) hrun
    refine lv_iconst (v := (1 : Int32)) hx hb dX6_hole_15 (by decide) ?_
    refine lv_goto (tgt := 29) hx hb dX6_hole_16 (by decide) ?_
    exact hj_4 (1 : Int32) _ _ hP hD hS ls (lv_sub hl [0, 1, 2, 3] rfl) hrun
  have hrun := mif_p (bz_nz c_3) hrun
  refine lv_iload_n hx hb dX6_hole_8 rfl (lv_at hl 2 rfl) ?_
  obtain ⟨r_22, hc_21, hrun⟩ := mob_s rfl hrun
  refine cRS (ws := []) (As := [.int p2]) ⟨hx, hb, hml, hown, hts⟩ hOK hz hS zP0 (mtX6_isRoom l D Z hOK _ _ hc_21) (kX6_isRoom hts q2182 rfl rfl ⟨Nat.le_of_ble_eq_true rfl, Nat.le_of_ble_eq_true rfl⟩) rfl hl.1 rfl (lv_room (Nat.le_of_ble_eq_true rfl)) ⟨Nat.le_of_ble_eq_true rfl, Nat.le_of_ble_eq_true rfl⟩ dX6_hole_9 ?_
  refine lv_if_ne (tgt := 19) hx hb dX6_hole_12 (by decide) (fun c_23 => ?_) (fun c_23 => ?_)
  · have hrun := mif_p (bz_nz c_23) hrun
    refine lv_iload_n hx hb dX6_hole_19 rfl (lv_at hl 1 rfl) ?_
    refine lv_iload_n hx hb dX6_hole_20 rfl (lv_at hl 2 rfl) ?_
    refine lv_icmp_ne (tgt := 28) hx hb dX6_hole_21 (by decide) (fun c_24 => ?_) (fun c_24 => ?_)
    · have hrun := mif_n c_24 hrun
      refine lv_iconst (v := (0 : Int32)) hx hb dX6_hole_28 (by decide) ?_
      exact hj_4 (0 : Int32) _ _ hP hD hS ls (lv_sub hl [0, 1, 2, 3] rfl) hrun
    have hrun := mif_p c_24 hrun
    refine lv_iconst (v := (2 : Int32)) hx hb dX6_hole_24 (by decide) ?_
    refine lv_goto (tgt := 29) hx hb dX6_hole_25 (by decide) ?_
    exact hj_4 (2 : Int32) _ _ hP hD hS ls (lv_sub hl [0, 1, 2, 3] rfl) hrun
  have hrun := mif_n (bz_z c_23) hrun
  refine lv_iconst (v := (1 : Int32)) hx hb dX6_hole_15 (by decide) ?_
  refine lv_goto (tgt := 29) hx hb dX6_hole_16 (by decide) ?_
  exact hj_4 (1 : Int32) _ _ hP hD hS ls (lv_sub hl [0, 1, 2, 3] rfl) hrun
def rX6_bath : Room := { frames := 2, cells := 0, slots := 0, locals := 44 }
noncomputable def fX6_bath (t : Tw) (p1 : Int32) : Option (Int32 × Tw) :=
  mob (fX6_isRoom p1) fun r_2 =>
  mjn (fun (y_5 : Bool) =>
  mlt (tw_s_thrown t (bz y_5)) fun t_7 =>
  if (tw_thrown t_7) ≤ (0 : Int32) then
    mo2 (fX6_sets t_7 (4 : Int32) p1) fun r_11 t_10 =>
    some (r_11, t_10)
  else
    some ((0 : Int32), t_7)) fun K_6 =>
  if r_2 = true then
    K_6 false
  else
    K_6 true
theorem kX6_bath {R : Room} {s : State} {args : Array Value} {own : String} {idx mc ms : Nat} {rm : Room} (hts : ∀ w ∈ lw_all, w.before args s = true) (hl : Cond.methodLink own idx yX6_bath ∈ lw_all) (hrc : rm.cells = mc) (hrs : rm.slots = ms) (hR : rm.frames + 1 ≤ R.frames ∧ 8 + (2 + 11) + rm.locals ≤ R.locals) : CallW R s args own RX6 idx yX6_bath cX6_bath 2 (some .int) (ws_ yX6_bath cX6_bath 2 (some .int)) rm mc ms 1 :=
  cwV 1 hts (lw_V hl q2230 q2231 q115 q2232) rfl hrc hrs (by decide +kernel) hR
set_option maxHeartbeats 4000000 in
set_option maxRecDepth 100000 in
theorem mtX6_bath (l : Launch) (D : va_G) (k : Nat → ClassId) (a : Nat → Nat) (Z : zZ) (hOK : zOK D zCl (zTys k) Z) (t : Tw) (p1 : Int32) (r : Int32) (tt : Tw) (hrun : fX6_bath t p1 = some (r, tt)) :
    CtW l yX6_bath cX6_bath 2 (some .int) rX6_bath Z D zCl (cT k a t) [.ref (a 0), .int p1] (fun r' w' => r' = (some (.int r)) ∧ w' = cT k a tt) 0 0 := by
  refine CtW.of (by decide) (Nat.le_of_ble_eq_true rfl) ?_
  intro p e s m args below meth c A hE hA hP hD hS hz ls hl
  obtain ⟨hx, hb, hr, hml, hown, hts, hlocks, hname⟩ := hE
  have hown : s.vm.findClass RX6 = some m.cls := hown
  have hK := hOK.1 _ _ _ hz
  have hl : lv_has ls 2 [(0, .ref (a 0)), (1, .int p1)] := hl
  unfold fX6_bath at hrun
  refine lv_aload_n hx hb dX6_bath_0 rfl (lv_at hl 0 rfl) ?_
  refine lv_iload_n hx hb dX6_bath_1 rfl (lv_at hl 1 rfl) ?_
  obtain ⟨r_2, hc_1, hrun⟩ := mob_s rfl hrun
  refine cRS (ws := []) (As := [.int p1]) ⟨hx, hb, hml, hown, hts⟩ hOK hz hS zP0 (mtX6_isRoom l D Z hOK _ _ hc_1) (kX6_isRoom hts q2182 rfl rfl ⟨Nat.le_of_ble_eq_true rfl, Nat.le_of_ble_eq_true rfl⟩) rfl hl.1 rfl (lv_room (Nat.le_of_ble_eq_true rfl)) ⟨Nat.le_of_ble_eq_true rfl, Nat.le_of_ble_eq_true rfl⟩ dX6_bath_2 ?_
  obtain ⟨K_6, hK_6, hrun⟩ := mjn_s hrun
  have hj_4 : ∀ (y_5 : Bool), ∀ (H : Heap) (locs : List Loc), va_P D zCl (cT k a t) H → va_D A (cT k a t) → va_S A s.heap H locs → ∀ ls : Array Slot, lv_has ls 2 [(0, .ref (a 0)), (1, .int p1)] → K_6 y_5 = some (r, tt) → W p l e rX6_bath s m args below meth c H locs 0 0 (MQ below (QWr (fun r' w' => r' = (some (.int r)) ∧ w' = cT k a tt) D zCl A) args s 0 0 A) (F0 m 13 ls [.int (bz y_5), .ref (a 0)]) := by
    intro y_5 H locs hP hD hS ls hl hrun
    rw [hK_6] at hrun
    refine va_put (ci := 0) (v := .int (bz y_5)) (ty := tyX6 0) (C := RX6) (T := TX6) (N := 22) hx hb hts in_X6 tyX6 tyX6_ok nmX6 hown hK hP hD hS 0 rfl rfl 0 (by decide) (hts _ q1902) (fun _ h9 => h9) rfl (tyX6_ok 0 (by decide)) rfl rfl (Nat.le_of_ble_eq_true rfl) dX6_bath_13 (fun H locs hP hD hS => ?_)
    have hP : va_P D zCl (cT k a (tw_s_thrown t (bz y_5))) H := hP
    have hD : va_D A (cT k a (tw_s_thrown t (bz y_5))) := hD
    obtain ⟨t_7, et_7⟩ : ∃ z : Tw, z = (tw_s_thrown t (bz y_5)) := ⟨_, rfl⟩
    rw [← et_7] at hP hD
    have hrun := mlt_s hrun t_7 et_7
    refine lv_aload_n hx hb dX6_bath_16 rfl (lv_at hl 0 rfl) ?_
    refine va_get (ci := 0) (v := .int (tw_thrown t_7)) (C := RX6) (T := TX6) (N := 22) hx hb hts in_X6 hown hK hP 0 rfl rfl 0 (by decide) (hts _ q1902) (fun _ h9 => h9) rfl dX6_bath_17 ?_
    refine lv_if_le (tgt := 27) hx hb dX6_bath_20 (by decide) (fun c_8 => ?_) (fun c_8 => ?_)
    · have hrun := mif_p c_8 hrun
      refine lv_aload_n hx hb dX6_bath_27 rfl (lv_at hl 0 rfl) ?_
      refine lv_iconst (v := (4 : Int32)) hx hb dX6_bath_28 (by decide) ?_
      refine lv_iload_n hx hb dX6_bath_29 rfl (lv_at hl 1 rfl) ?_
      obtain ⟨r_11, t_10, hc_9, hrun⟩ := mo2_s rfl hrun
      refine cWV00 (As := [.int (4 : Int32), .int p1]) (ci := 0) ⟨hx, hb, hml, hown, hts⟩ hOK hz hS hA hP hD (mtX6_sets l D k a Z hOK _ _ _ _ _ hc_9) (kX6_sets hts q2209 rfl rfl ⟨Nat.le_of_ble_eq_true rfl, Nat.le_of_ble_eq_true rfl⟩) 0 rfl rfl rfl hl.1 rfl (lv_room (Nat.le_of_ble_eq_true rfl)) ⟨Nat.le_of_ble_eq_true rfl, Nat.le_of_ble_eq_true rfl⟩ dX6_bath_30 (fun r_ w_ H locs hq hP hD hS => ?_)
      obtain ⟨rfl, rfl⟩ := hq
      cases hrun
      exact retW_i hx hb hr hlocks hP hD hS ⟨rfl, rfl⟩ dX6_bath_33
    have hrun := mif_n c_8 hrun
    refine lv_iconst (v := (0 : Int32)) hx hb dX6_bath_23 (by decide) ?_
    refine lv_goto (tgt := 33) hx hb dX6_bath_24 (by decide) ?_
    cases hrun
    exact retW_i hx hb hr hlocks hP hD hS ⟨rfl, rfl⟩ dX6_bath_33
  refine lv_if_ne (tgt := 12) hx hb dX6_bath_5 (by decide) (fun c_3 => ?_) (fun c_3 => ?_)
  · have hrun := mif_p (bz_nz c_3) hrun
    refine lv_iconst (v := (0 : Int32)) hx hb dX6_bath_12 (by decide) ?_
    exact hj_4 false _ _ hP hD hS ls (lv_sub hl [0, 1] rfl) hrun
  have hrun := mif_n (bz_z c_3) hrun
  refine lv_iconst (v := (1 : Int32)) hx hb dX6_bath_8 (by decide) ?_
  refine lv_goto (tgt := 13) hx hb dX6_bath_9 (by decide) ?_
  exact hj_4 true _ _ hP hD hS ls (lv_sub hl [0, 1] rfl) hrun
def rX6_keep : Room := { frames := 2, cells := 0, slots := 0, locals := 44 }
noncomputable def fX6_keep (t : Tw) (p1 : Int32) : Option (Int32 × Tw) :=
  mob (fX6_isIn p1 (0 : Int32) (1 : Int32)) fun r_2 =>
  mjn (fun (y_5 : Bool) =>
  mlt (tw_s_thrown t (bz y_5)) fun t_7 =>
  if (tw_thrown t_7) ≤ (0 : Int32) then
    mo2 (fX6_sets t_7 (5 : Int32) p1) fun r_11 t_10 =>
    some (r_11, t_10)
  else
    some ((0 : Int32), t_7)) fun K_6 =>
  if r_2 = true then
    K_6 false
  else
    K_6 true
theorem kX6_keep {R : Room} {s : State} {args : Array Value} {own : String} {idx mc ms : Nat} {rm : Room} (hts : ∀ w ∈ lw_all, w.before args s = true) (hl : Cond.methodLink own idx yX6_keep ∈ lw_all) (hrc : rm.cells = mc) (hrs : rm.slots = ms) (hR : rm.frames + 1 ≤ R.frames ∧ 8 + (2 + 11) + rm.locals ≤ R.locals) : CallW R s args own RX6 idx yX6_keep cX6_keep 2 (some .int) (ws_ yX6_keep cX6_keep 2 (some .int)) rm mc ms 1 :=
  cwV 1 hts (lw_V hl q2234 q2235 q115 q2236) rfl hrc hrs (by decide +kernel) hR
set_option maxHeartbeats 4000000 in
set_option maxRecDepth 100000 in
theorem mtX6_keep (l : Launch) (D : va_G) (k : Nat → ClassId) (a : Nat → Nat) (Z : zZ) (hOK : zOK D zCl (zTys k) Z) (t : Tw) (p1 : Int32) (r : Int32) (tt : Tw) (hrun : fX6_keep t p1 = some (r, tt)) :
    CtW l yX6_keep cX6_keep 2 (some .int) rX6_keep Z D zCl (cT k a t) [.ref (a 0), .int p1] (fun r' w' => r' = (some (.int r)) ∧ w' = cT k a tt) 0 0 := by
  refine CtW.of (by decide) (Nat.le_of_ble_eq_true rfl) ?_
  intro p e s m args below meth c A hE hA hP hD hS hz ls hl
  obtain ⟨hx, hb, hr, hml, hown, hts, hlocks, hname⟩ := hE
  have hown : s.vm.findClass RX6 = some m.cls := hown
  have hK := hOK.1 _ _ _ hz
  have hl : lv_has ls 2 [(0, .ref (a 0)), (1, .int p1)] := hl
  unfold fX6_keep at hrun
  refine lv_aload_n hx hb dX6_keep_0 rfl (lv_at hl 0 rfl) ?_
  refine lv_iload_n hx hb dX6_keep_1 rfl (lv_at hl 1 rfl) ?_
  refine lv_iconst (v := (0 : Int32)) hx hb dX6_keep_2 (by decide) ?_
  refine lv_iconst (v := (1 : Int32)) hx hb dX6_keep_3 (by decide) ?_
  obtain ⟨r_2, hc_1, hrun⟩ := mob_s rfl hrun
  refine cRS (ws := []) (As := [.int p1, .int (0 : Int32), .int (1 : Int32)]) ⟨hx, hb, hml, hown, hts⟩ hOK hz hS zP0 (mtX6_isIn l D Z hOK _ _ _ _ hc_1) (kX6_isIn hts q1981 rfl rfl ⟨Nat.le_of_ble_eq_true rfl, Nat.le_of_ble_eq_true rfl⟩) rfl hl.1 rfl (lv_room (Nat.le_of_ble_eq_true rfl)) ⟨Nat.le_of_ble_eq_true rfl, Nat.le_of_ble_eq_true rfl⟩ dX6_keep_4 ?_
  obtain ⟨K_6, hK_6, hrun⟩ := mjn_s hrun
  have hj_4 : ∀ (y_5 : Bool), ∀ (H : Heap) (locs : List Loc), va_P D zCl (cT k a t) H → va_D A (cT k a t) → va_S A s.heap H locs → ∀ ls : Array Slot, lv_has ls 2 [(0, .ref (a 0)), (1, .int p1)] → K_6 y_5 = some (r, tt) → W p l e rX6_keep s m args below meth c H locs 0 0 (MQ below (QWr (fun r' w' => r' = (some (.int r)) ∧ w' = cT k a tt) D zCl A) args s 0 0 A) (F0 m 15 ls [.int (bz y_5), .ref (a 0)]) := by
    intro y_5 H locs hP hD hS ls hl hrun
    rw [hK_6] at hrun
    refine va_put (ci := 0) (v := .int (bz y_5)) (ty := tyX6 0) (C := RX6) (T := TX6) (N := 22) hx hb hts in_X6 tyX6 tyX6_ok nmX6 hown hK hP hD hS 0 rfl rfl 0 (by decide) (hts _ q1902) (fun _ h9 => h9) rfl (tyX6_ok 0 (by decide)) rfl rfl (Nat.le_of_ble_eq_true rfl) dX6_keep_15 (fun H locs hP hD hS => ?_)
    have hP : va_P D zCl (cT k a (tw_s_thrown t (bz y_5))) H := hP
    have hD : va_D A (cT k a (tw_s_thrown t (bz y_5))) := hD
    obtain ⟨t_7, et_7⟩ : ∃ z : Tw, z = (tw_s_thrown t (bz y_5)) := ⟨_, rfl⟩
    rw [← et_7] at hP hD
    have hrun := mlt_s hrun t_7 et_7
    refine lv_aload_n hx hb dX6_keep_18 rfl (lv_at hl 0 rfl) ?_
    refine va_get (ci := 0) (v := .int (tw_thrown t_7)) (C := RX6) (T := TX6) (N := 22) hx hb hts in_X6 hown hK hP 0 rfl rfl 0 (by decide) (hts _ q1902) (fun _ h9 => h9) rfl dX6_keep_19 ?_
    refine lv_if_le (tgt := 29) hx hb dX6_keep_22 (by decide) (fun c_8 => ?_) (fun c_8 => ?_)
    · have hrun := mif_p c_8 hrun
      refine lv_aload_n hx hb dX6_keep_29 rfl (lv_at hl 0 rfl) ?_
      refine lv_iconst (v := (5 : Int32)) hx hb dX6_keep_30 (by decide) ?_
      refine lv_iload_n hx hb dX6_keep_31 rfl (lv_at hl 1 rfl) ?_
      obtain ⟨r_11, t_10, hc_9, hrun⟩ := mo2_s rfl hrun
      refine cWV00 (As := [.int (5 : Int32), .int p1]) (ci := 0) ⟨hx, hb, hml, hown, hts⟩ hOK hz hS hA hP hD (mtX6_sets l D k a Z hOK _ _ _ _ _ hc_9) (kX6_sets hts q2209 rfl rfl ⟨Nat.le_of_ble_eq_true rfl, Nat.le_of_ble_eq_true rfl⟩) 0 rfl rfl rfl hl.1 rfl (lv_room (Nat.le_of_ble_eq_true rfl)) ⟨Nat.le_of_ble_eq_true rfl, Nat.le_of_ble_eq_true rfl⟩ dX6_keep_32 (fun r_ w_ H locs hq hP hD hS => ?_)
      obtain ⟨rfl, rfl⟩ := hq
      cases hrun
      exact retW_i hx hb hr hlocks hP hD hS ⟨rfl, rfl⟩ dX6_keep_35
    have hrun := mif_n c_8 hrun
    refine lv_iconst (v := (0 : Int32)) hx hb dX6_keep_25 (by decide) ?_
    refine lv_goto (tgt := 35) hx hb dX6_keep_26 (by decide) ?_
    cases hrun
    exact retW_i hx hb hr hlocks hP hD hS ⟨rfl, rfl⟩ dX6_keep_35
  refine lv_if_ne (tgt := 14) hx hb dX6_keep_7 (by decide) (fun c_3 => ?_) (fun c_3 => ?_)
  · have hrun := mif_p (bz_nz c_3) hrun
    refine lv_iconst (v := (0 : Int32)) hx hb dX6_keep_14 (by decide) ?_
    exact hj_4 false _ _ hP hD hS ls (lv_sub hl [0, 1] rfl) hrun
  have hrun := mif_n (bz_z c_3) hrun
  refine lv_iconst (v := (1 : Int32)) hx hb dX6_keep_10 (by decide) ?_
  refine lv_goto (tgt := 15) hx hb dX6_keep_11 (by decide) ?_
  exact hj_4 true _ _ hP hD hS ls (lv_sub hl [0, 1] rfl) hrun
def rX6_masons : Room := { frames := 2, cells := 0, slots := 0, locals := 44 }
noncomputable def fX6_masons (t : Tw) (p1 : Int32) : Option (Int32 × Tw) :=
  mob (fX6_isIn p1 (0 : Int32) (9 : Int32)) fun r_2 =>
  mjn (fun (y_5 : Bool) =>
  mlt (tw_s_thrown t (bz y_5)) fun t_7 =>
  if (tw_thrown t_7) ≤ (0 : Int32) then
    mo2 (fX6_sets t_7 (6 : Int32) p1) fun r_11 t_10 =>
    some (r_11, t_10)
  else
    some ((0 : Int32), t_7)) fun K_6 =>
  if r_2 = true then
    K_6 false
  else
    K_6 true
theorem kX6_masons {R : Room} {s : State} {args : Array Value} {own : String} {idx mc ms : Nat} {rm : Room} (hts : ∀ w ∈ lw_all, w.before args s = true) (hl : Cond.methodLink own idx yX6_masons ∈ lw_all) (hrc : rm.cells = mc) (hrs : rm.slots = ms) (hR : rm.frames + 1 ≤ R.frames ∧ 8 + (2 + 11) + rm.locals ≤ R.locals) : CallW R s args own RX6 idx yX6_masons cX6_masons 2 (some .int) (ws_ yX6_masons cX6_masons 2 (some .int)) rm mc ms 1 :=
  cwV 1 hts (lw_V hl q2238 q2239 q115 q2240) rfl hrc hrs (by decide +kernel) hR
set_option maxHeartbeats 4000000 in
set_option maxRecDepth 100000 in
theorem mtX6_masons (l : Launch) (D : va_G) (k : Nat → ClassId) (a : Nat → Nat) (Z : zZ) (hOK : zOK D zCl (zTys k) Z) (t : Tw) (p1 : Int32) (r : Int32) (tt : Tw) (hrun : fX6_masons t p1 = some (r, tt)) :
    CtW l yX6_masons cX6_masons 2 (some .int) rX6_masons Z D zCl (cT k a t) [.ref (a 0), .int p1] (fun r' w' => r' = (some (.int r)) ∧ w' = cT k a tt) 0 0 := by
  refine CtW.of (by decide) (Nat.le_of_ble_eq_true rfl) ?_
  intro p e s m args below meth c A hE hA hP hD hS hz ls hl
  obtain ⟨hx, hb, hr, hml, hown, hts, hlocks, hname⟩ := hE
  have hown : s.vm.findClass RX6 = some m.cls := hown
  have hK := hOK.1 _ _ _ hz
  have hl : lv_has ls 2 [(0, .ref (a 0)), (1, .int p1)] := hl
  unfold fX6_masons at hrun
  refine lv_aload_n hx hb dX6_masons_0 rfl (lv_at hl 0 rfl) ?_
  refine lv_iload_n hx hb dX6_masons_1 rfl (lv_at hl 1 rfl) ?_
  refine lv_iconst (v := (0 : Int32)) hx hb dX6_masons_2 (by decide) ?_
  refine lv_bipush (v := (9 : Int32)) hx hb dX6_masons_3 (by decide) ?_
  obtain ⟨r_2, hc_1, hrun⟩ := mob_s rfl hrun
  refine cRS (ws := []) (As := [.int p1, .int (0 : Int32), .int (9 : Int32)]) ⟨hx, hb, hml, hown, hts⟩ hOK hz hS zP0 (mtX6_isIn l D Z hOK _ _ _ _ hc_1) (kX6_isIn hts q1981 rfl rfl ⟨Nat.le_of_ble_eq_true rfl, Nat.le_of_ble_eq_true rfl⟩) rfl hl.1 rfl (lv_room (Nat.le_of_ble_eq_true rfl)) ⟨Nat.le_of_ble_eq_true rfl, Nat.le_of_ble_eq_true rfl⟩ dX6_masons_5 ?_
  obtain ⟨K_6, hK_6, hrun⟩ := mjn_s hrun
  have hj_4 : ∀ (y_5 : Bool), ∀ (H : Heap) (locs : List Loc), va_P D zCl (cT k a t) H → va_D A (cT k a t) → va_S A s.heap H locs → ∀ ls : Array Slot, lv_has ls 2 [(0, .ref (a 0)), (1, .int p1)] → K_6 y_5 = some (r, tt) → W p l e rX6_masons s m args below meth c H locs 0 0 (MQ below (QWr (fun r' w' => r' = (some (.int r)) ∧ w' = cT k a tt) D zCl A) args s 0 0 A) (F0 m 16 ls [.int (bz y_5), .ref (a 0)]) := by
    intro y_5 H locs hP hD hS ls hl hrun
    rw [hK_6] at hrun
    refine va_put (ci := 0) (v := .int (bz y_5)) (ty := tyX6 0) (C := RX6) (T := TX6) (N := 22) hx hb hts in_X6 tyX6 tyX6_ok nmX6 hown hK hP hD hS 0 rfl rfl 0 (by decide) (hts _ q1902) (fun _ h9 => h9) rfl (tyX6_ok 0 (by decide)) rfl rfl (Nat.le_of_ble_eq_true rfl) dX6_masons_16 (fun H locs hP hD hS => ?_)
    have hP : va_P D zCl (cT k a (tw_s_thrown t (bz y_5))) H := hP
    have hD : va_D A (cT k a (tw_s_thrown t (bz y_5))) := hD
    obtain ⟨t_7, et_7⟩ : ∃ z : Tw, z = (tw_s_thrown t (bz y_5)) := ⟨_, rfl⟩
    rw [← et_7] at hP hD
    have hrun := mlt_s hrun t_7 et_7
    refine lv_aload_n hx hb dX6_masons_19 rfl (lv_at hl 0 rfl) ?_
    refine va_get (ci := 0) (v := .int (tw_thrown t_7)) (C := RX6) (T := TX6) (N := 22) hx hb hts in_X6 hown hK hP 0 rfl rfl 0 (by decide) (hts _ q1902) (fun _ h9 => h9) rfl dX6_masons_20 ?_
    refine lv_if_le (tgt := 30) hx hb dX6_masons_23 (by decide) (fun c_8 => ?_) (fun c_8 => ?_)
    · have hrun := mif_p c_8 hrun
      refine lv_aload_n hx hb dX6_masons_30 rfl (lv_at hl 0 rfl) ?_
      refine lv_bipush (v := (6 : Int32)) hx hb dX6_masons_31 (by decide) ?_
      refine lv_iload_n hx hb dX6_masons_33 rfl (lv_at hl 1 rfl) ?_
      obtain ⟨r_11, t_10, hc_9, hrun⟩ := mo2_s rfl hrun
      refine cWV00 (As := [.int (6 : Int32), .int p1]) (ci := 0) ⟨hx, hb, hml, hown, hts⟩ hOK hz hS hA hP hD (mtX6_sets l D k a Z hOK _ _ _ _ _ hc_9) (kX6_sets hts q2209 rfl rfl ⟨Nat.le_of_ble_eq_true rfl, Nat.le_of_ble_eq_true rfl⟩) 0 rfl rfl rfl hl.1 rfl (lv_room (Nat.le_of_ble_eq_true rfl)) ⟨Nat.le_of_ble_eq_true rfl, Nat.le_of_ble_eq_true rfl⟩ dX6_masons_34 (fun r_ w_ H locs hq hP hD hS => ?_)
      obtain ⟨rfl, rfl⟩ := hq
      cases hrun
      exact retW_i hx hb hr hlocks hP hD hS ⟨rfl, rfl⟩ dX6_masons_37
    have hrun := mif_n c_8 hrun
    refine lv_iconst (v := (0 : Int32)) hx hb dX6_masons_26 (by decide) ?_
    refine lv_goto (tgt := 37) hx hb dX6_masons_27 (by decide) ?_
    cases hrun
    exact retW_i hx hb hr hlocks hP hD hS ⟨rfl, rfl⟩ dX6_masons_37
  refine lv_if_ne (tgt := 15) hx hb dX6_masons_8 (by decide) (fun c_3 => ?_) (fun c_3 => ?_)
  · have hrun := mif_p (bz_nz c_3) hrun
    refine lv_iconst (v := (0 : Int32)) hx hb dX6_masons_15 (by decide) ?_
    exact hj_4 false _ _ hP hD hS ls (lv_sub hl [0, 1] rfl) hrun
  have hrun := mif_n (bz_z c_3) hrun
  refine lv_iconst (v := (1 : Int32)) hx hb dX6_masons_11 (by decide) ?_
  refine lv_goto (tgt := 16) hx hb dX6_masons_12 (by decide) ?_
  exact hj_4 true _ _ hP hD hS ls (lv_sub hl [0, 1] rfl) hrun
def rX6_buy : Room := { frames := 2, cells := 0, slots := 0, locals := 44 }
noncomputable def fX6_buy (t : Tw) (p1 : Int32) : Option (Int32 × Tw) :=
  mob (fX6_isIn p1 (1 : Int32) (999 : Int32)) fun r_2 =>
  mjn (fun (y_5 : Bool) =>
  mlt (tw_s_thrown t (bz y_5)) fun t_7 =>
  if (tw_thrown t_7) ≤ (0 : Int32) then
    mob (fX6_lesser (9999 : Int32) (((tw_m t_7) 7) + p1)) fun r_10 =>
    mo2 (fX6_sets t_7 (7 : Int32) r_10) fun r_13 t_12 =>
    some (((tw_m t_12) 7), t_12)
  else
    some ((0 : Int32), t_7)) fun K_6 =>
  if r_2 = true then
    K_6 false
  else
    K_6 true
theorem kX6_buy {R : Room} {s : State} {args : Array Value} {own : String} {idx mc ms : Nat} {rm : Room} (hts : ∀ w ∈ lw_all, w.before args s = true) (hl : Cond.methodLink own idx yX6_buy ∈ lw_all) (hrc : rm.cells = mc) (hrs : rm.slots = ms) (hR : rm.frames + 1 ≤ R.frames ∧ 8 + (3 + 11) + rm.locals ≤ R.locals) : CallW R s args own RX6 idx yX6_buy cX6_buy 3 (some .int) (ws_ yX6_buy cX6_buy 3 (some .int)) rm mc ms 1 :=
  cwV 1 hts (lw_V hl q2242 q2243 q115 q2244) rfl hrc hrs (by decide +kernel) hR
set_option maxHeartbeats 4000000 in
set_option maxRecDepth 100000 in
theorem mtX6_buy (l : Launch) (D : va_G) (k : Nat → ClassId) (a : Nat → Nat) (Z : zZ) (hOK : zOK D zCl (zTys k) Z) (t : Tw) (p1 : Int32) (r : Int32) (tt : Tw) (hrun : fX6_buy t p1 = some (r, tt)) :
    CtW l yX6_buy cX6_buy 3 (some .int) rX6_buy Z D zCl (cT k a t) [.ref (a 0), .int p1] (fun r' w' => r' = (some (.int r)) ∧ w' = cT k a tt) 0 0 := by
  refine CtW.of (by decide) (Nat.le_of_ble_eq_true rfl) ?_
  intro p e s m args below meth c A hE hA hP hD hS hz ls hl
  obtain ⟨hx, hb, hr, hml, hown, hts, hlocks, hname⟩ := hE
  have hown : s.vm.findClass RX6 = some m.cls := hown
  have hK := hOK.1 _ _ _ hz
  have hl : lv_has ls 3 [(0, .ref (a 0)), (1, .int p1)] := hl
  unfold fX6_buy at hrun
  refine lv_aload_n hx hb dX6_buy_0 rfl (lv_at hl 0 rfl) ?_
  refine lv_iload_n hx hb dX6_buy_1 rfl (lv_at hl 1 rfl) ?_
  refine lv_iconst (v := (1 : Int32)) hx hb dX6_buy_2 (by decide) ?_
  refine lv_sipush (v := (999 : Int32)) hx hb dX6_buy_3 (by decide) ?_
  obtain ⟨r_2, hc_1, hrun⟩ := mob_s rfl hrun
  refine cRS (ws := []) (As := [.int p1, .int (1 : Int32), .int (999 : Int32)]) ⟨hx, hb, hml, hown, hts⟩ hOK hz hS zP0 (mtX6_isIn l D Z hOK _ _ _ _ hc_1) (kX6_isIn hts q1981 rfl rfl ⟨Nat.le_of_ble_eq_true rfl, Nat.le_of_ble_eq_true rfl⟩) rfl hl.1 rfl (lv_room (Nat.le_of_ble_eq_true rfl)) ⟨Nat.le_of_ble_eq_true rfl, Nat.le_of_ble_eq_true rfl⟩ dX6_buy_6 ?_
  obtain ⟨K_6, hK_6, hrun⟩ := mjn_s hrun
  have hj_4 : ∀ (y_5 : Bool), ∀ (H : Heap) (locs : List Loc), va_P D zCl (cT k a t) H → va_D A (cT k a t) → va_S A s.heap H locs → ∀ ls : Array Slot, lv_has ls 3 [(0, .ref (a 0)), (1, .int p1)] → K_6 y_5 = some (r, tt) → W p l e rX6_buy s m args below meth c H locs 0 0 (MQ below (QWr (fun r' w' => r' = (some (.int r)) ∧ w' = cT k a tt) D zCl A) args s 0 0 A) (F0 m 17 ls [.int (bz y_5), .ref (a 0)]) := by
    intro y_5 H locs hP hD hS ls hl hrun
    rw [hK_6] at hrun
    refine va_put (ci := 0) (v := .int (bz y_5)) (ty := tyX6 0) (C := RX6) (T := TX6) (N := 22) hx hb hts in_X6 tyX6 tyX6_ok nmX6 hown hK hP hD hS 0 rfl rfl 0 (by decide) (hts _ q1902) (fun _ h9 => h9) rfl (tyX6_ok 0 (by decide)) rfl rfl (Nat.le_of_ble_eq_true rfl) dX6_buy_17 (fun H locs hP hD hS => ?_)
    have hP : va_P D zCl (cT k a (tw_s_thrown t (bz y_5))) H := hP
    have hD : va_D A (cT k a (tw_s_thrown t (bz y_5))) := hD
    obtain ⟨t_7, et_7⟩ : ∃ z : Tw, z = (tw_s_thrown t (bz y_5)) := ⟨_, rfl⟩
    rw [← et_7] at hP hD
    have hrun := mlt_s hrun t_7 et_7
    refine lv_aload_n hx hb dX6_buy_20 rfl (lv_at hl 0 rfl) ?_
    refine va_get (ci := 0) (v := .int (tw_thrown t_7)) (C := RX6) (T := TX6) (N := 22) hx hb hts in_X6 hown hK hP 0 rfl rfl 0 (by decide) (hts _ q1902) (fun _ h9 => h9) rfl dX6_buy_21 ?_
    refine lv_if_le (tgt := 29) hx hb dX6_buy_24 (by decide) (fun c_8 => ?_) (fun c_8 => ?_)
    · have hrun := mif_p c_8 hrun
      refine lv_aload_n hx hb dX6_buy_29 rfl (lv_at hl 0 rfl) ?_
      refine lv_bipush (v := (7 : Int32)) hx hb dX6_buy_30 (by decide) ?_
      refine lv_sipush (v := (9999 : Int32)) hx hb dX6_buy_32 (by decide) ?_
      refine lv_aload_n hx hb dX6_buy_35 rfl (lv_at hl 0 rfl) ?_
      refine va_get (ci := 0) (v := .ref (a 1)) (C := RX6) (T := TX6) (N := 22) hx hb hts in_X6 hown hK hP 0 rfl rfl 1 (by decide) (hts _ q1903) (fun _ h9 => h9) rfl dX6_buy_36 ?_
      refine lv_bipush (v := (7 : Int32)) hx hb dX6_buy_39 (by decide) ?_
      refine va_ialdk (k := 7) hx hb hK hP 1 0 rfl rfl rfl (show ¬ _ from by decide) dX6_buy_41 ?_
      refine lv_iload_n hx hb dX6_buy_42 rfl (lv_at hl 1 rfl) ?_
      refine lv_iadd hx hb dX6_buy_43 ?_
      obtain ⟨r_10, hc_9, hrun⟩ := mob_s rfl hrun
      refine cRS (ws := []) (As := [.int (9999 : Int32), .int (((tw_m t_7) 7) + p1)]) ⟨hx, hb, hml, hown, hts⟩ hOK hz hS zP0 (mtX6_lesser l D Z hOK _ _ _ hc_9) (kX6_lesser hts q2245 rfl rfl ⟨Nat.le_of_ble_eq_true rfl, Nat.le_of_ble_eq_true rfl⟩) rfl hl.1 rfl (lv_room (Nat.le_of_ble_eq_true rfl)) ⟨Nat.le_of_ble_eq_true rfl, Nat.le_of_ble_eq_true rfl⟩ dX6_buy_44 ?_
      obtain ⟨r_13, t_12, hc_11, hrun⟩ := mo2_s rfl hrun
      refine cWV00 (As := [.int (7 : Int32), .int r_10]) (ci := 0) ⟨hx, hb, hml, hown, hts⟩ hOK hz hS hA hP hD (mtX6_sets l D k a Z hOK _ _ _ _ _ hc_11) (kX6_sets hts q2209 rfl rfl ⟨Nat.le_of_ble_eq_true rfl, Nat.le_of_ble_eq_true rfl⟩) 0 rfl rfl rfl hl.1 rfl (lv_room (Nat.le_of_ble_eq_true rfl)) ⟨Nat.le_of_ble_eq_true rfl, Nat.le_of_ble_eq_true rfl⟩ dX6_buy_47 (fun r_ w_ H locs hq hP hD hS => ?_)
      obtain ⟨rfl, rfl⟩ := hq
      refine lv_istore_n (lv' := [(2, .int r_13), (0, .ref (a 0)), (1, .int p1)]) hx hb dX6_buy_50 rfl hl (by decide) rfl (fun ls hl => ?_)
      refine lv_aload_n hx hb dX6_buy_51 rfl (lv_at hl 1 rfl) ?_
      refine va_get (ci := 0) (v := .ref (a 1)) (C := RX6) (T := TX6) (N := 22) hx hb hts in_X6 hown hK hP 0 rfl rfl 1 (by decide) (hts _ q1903) (fun _ h9 => h9) rfl dX6_buy_52 ?_
      refine lv_bipush (v := (7 : Int32)) hx hb dX6_buy_55 (by decide) ?_
      refine va_ialdk (k := 7) hx hb hK hP 1 0 rfl rfl rfl (show ¬ _ from by decide) dX6_buy_57 ?_
      cases hrun
      exact retW_i hx hb hr hlocks hP hD hS ⟨rfl, rfl⟩ dX6_buy_58
    have hrun := mif_n c_8 hrun
    refine lv_iconst (v := (0 : Int32)) hx hb dX6_buy_27 (by decide) ?_
    cases hrun
    exact retW_i hx hb hr hlocks hP hD hS ⟨rfl, rfl⟩ dX6_buy_28
  refine lv_if_ne (tgt := 16) hx hb dX6_buy_9 (by decide) (fun c_3 => ?_) (fun c_3 => ?_)
  · have hrun := mif_p (bz_nz c_3) hrun
    refine lv_iconst (v := (0 : Int32)) hx hb dX6_buy_16 (by decide) ?_
    exact hj_4 false _ _ hP hD hS ls (lv_sub hl [0, 1] rfl) hrun
  have hrun := mif_n (bz_z c_3) hrun
  refine lv_iconst (v := (1 : Int32)) hx hb dX6_buy_12 (by decide) ?_
  refine lv_goto (tgt := 17) hx hb dX6_buy_13 (by decide) ?_
  exact hj_4 true _ _ hP hD hS ls (lv_sub hl [0, 1] rfl) hrun
def rX6_calm : Room := { frames := 2, cells := 0, slots := 0, locals := 44 }
noncomputable def fX6_calm (t : Tw) (p1 : Int32) : Option (Int32 × Tw) :=
  mob (fX6_isGuest t p1) fun r_2 =>
  mjn (fun (y_5 : Bool) =>
  mlt (tw_s_thrown t (bz y_5)) fun t_7 =>
  if (tw_thrown t_7) ≤ (0 : Int32) then
    mob (fX6_of t_7 p1 (2 : Int32)) fun r_10 =>
    mo2 (fX6_sets t_7 (((24 : Int32) + ((5 : Int32) * p1)) + (2 : Int32)) (r_10 / (2 : Int32))) fun r_13 t_12 =>
    mob (fX6_of t_12 p1 (2 : Int32)) fun r_15 =>
    some (r_15, t_12)
  else
    some ((0 : Int32), t_7)) fun K_6 =>
  if r_2 = true then
    K_6 false
  else
    K_6 true
theorem kX6_calm {R : Room} {s : State} {args : Array Value} {own : String} {idx mc ms : Nat} {rm : Room} (hts : ∀ w ∈ lw_all, w.before args s = true) (hl : Cond.methodLink own idx yX6_calm ∈ lw_all) (hrc : rm.cells = mc) (hrs : rm.slots = ms) (hR : rm.frames + 1 ≤ R.frames ∧ 8 + (3 + 11) + rm.locals ≤ R.locals) : CallW R s args own RX6 idx yX6_calm cX6_calm 3 (some .int) (ws_ yX6_calm cX6_calm 3 (some .int)) rm mc ms 1 :=
  cwV 1 hts (lw_V hl q2249 q2250 q115 q2251) rfl hrc hrs (by decide +kernel) hR
set_option maxHeartbeats 4000000 in
set_option maxRecDepth 100000 in
theorem mtX6_calm (l : Launch) (D : va_G) (k : Nat → ClassId) (a : Nat → Nat) (Z : zZ) (hOK : zOK D zCl (zTys k) Z) (t : Tw) (p1 : Int32) (r : Int32) (tt : Tw) (hrun : fX6_calm t p1 = some (r, tt)) :
    CtW l yX6_calm cX6_calm 3 (some .int) rX6_calm Z D zCl (cT k a t) [.ref (a 0), .int p1] (fun r' w' => r' = (some (.int r)) ∧ w' = cT k a tt) 0 0 := by
  refine CtW.of (by decide) (Nat.le_of_ble_eq_true rfl) ?_
  intro p e s m args below meth c A hE hA hP hD hS hz ls hl
  obtain ⟨hx, hb, hr, hml, hown, hts, hlocks, hname⟩ := hE
  have hown : s.vm.findClass RX6 = some m.cls := hown
  have hK := hOK.1 _ _ _ hz
  have hl : lv_has ls 3 [(0, .ref (a 0)), (1, .int p1)] := hl
  unfold fX6_calm at hrun
  refine lv_aload_n hx hb dX6_calm_0 rfl (lv_at hl 0 rfl) ?_
  refine lv_aload_n hx hb dX6_calm_1 rfl (lv_at hl 0 rfl) ?_
  refine lv_iload_n hx hb dX6_calm_2 rfl (lv_at hl 1 rfl) ?_
  obtain ⟨r_2, hc_1, hrun⟩ := mob_s rfl hrun
  refine cRV (As := [.int p1]) (ci := 0) ⟨hx, hb, hml, hown, hts⟩ hOK hz hS hP (mtX6_isGuest l D k a Z hOK _ _ _ hc_1) (kX6_isGuest hts q2132 rfl rfl ⟨Nat.le_of_ble_eq_true rfl, Nat.le_of_ble_eq_true rfl⟩) 0 rfl rfl rfl hl.1 rfl (lv_room (Nat.le_of_ble_eq_true rfl)) ⟨Nat.le_of_ble_eq_true rfl, Nat.le_of_ble_eq_true rfl⟩ dX6_calm_3 ?_
  obtain ⟨K_6, hK_6, hrun⟩ := mjn_s hrun
  have hj_4 : ∀ (y_5 : Bool), ∀ (H : Heap) (locs : List Loc), va_P D zCl (cT k a t) H → va_D A (cT k a t) → va_S A s.heap H locs → ∀ ls : Array Slot, lv_has ls 3 [(0, .ref (a 0)), (1, .int p1)] → K_6 y_5 = some (r, tt) → W p l e rX6_calm s m args below meth c H locs 0 0 (MQ below (QWr (fun r' w' => r' = (some (.int r)) ∧ w' = cT k a tt) D zCl A) args s 0 0 A) (F0 m 14 ls [.int (bz y_5), .ref (a 0)]) := by
    intro y_5 H locs hP hD hS ls hl hrun
    rw [hK_6] at hrun
    refine va_put (ci := 0) (v := .int (bz y_5)) (ty := tyX6 0) (C := RX6) (T := TX6) (N := 22) hx hb hts in_X6 tyX6 tyX6_ok nmX6 hown hK hP hD hS 0 rfl rfl 0 (by decide) (hts _ q1902) (fun _ h9 => h9) rfl (tyX6_ok 0 (by decide)) rfl rfl (Nat.le_of_ble_eq_true rfl) dX6_calm_14 (fun H locs hP hD hS => ?_)
    have hP : va_P D zCl (cT k a (tw_s_thrown t (bz y_5))) H := hP
    have hD : va_D A (cT k a (tw_s_thrown t (bz y_5))) := hD
    obtain ⟨t_7, et_7⟩ : ∃ z : Tw, z = (tw_s_thrown t (bz y_5)) := ⟨_, rfl⟩
    rw [← et_7] at hP hD
    have hrun := mlt_s hrun t_7 et_7
    refine lv_aload_n hx hb dX6_calm_17 rfl (lv_at hl 0 rfl) ?_
    refine va_get (ci := 0) (v := .int (tw_thrown t_7)) (C := RX6) (T := TX6) (N := 22) hx hb hts in_X6 hown hK hP 0 rfl rfl 0 (by decide) (hts _ q1902) (fun _ h9 => h9) rfl dX6_calm_18 ?_
    refine lv_if_le (tgt := 26) hx hb dX6_calm_21 (by decide) (fun c_8 => ?_) (fun c_8 => ?_)
    · have hrun := mif_p c_8 hrun
      refine lv_aload_n hx hb dX6_calm_26 rfl (lv_at hl 0 rfl) ?_
      refine lv_bipush (v := (24 : Int32)) hx hb dX6_calm_27 (by decide) ?_
      refine lv_iconst (v := (5 : Int32)) hx hb dX6_calm_29 (by decide) ?_
      refine lv_iload_n hx hb dX6_calm_30 rfl (lv_at hl 1 rfl) ?_
      refine lv_imul hx hb dX6_calm_31 ?_
      refine lv_iadd hx hb dX6_calm_32 ?_
      refine lv_iconst (v := (2 : Int32)) hx hb dX6_calm_33 (by decide) ?_
      refine lv_iadd hx hb dX6_calm_34 ?_
      refine lv_aload_n hx hb dX6_calm_35 rfl (lv_at hl 0 rfl) ?_
      refine lv_iload_n hx hb dX6_calm_36 rfl (lv_at hl 1 rfl) ?_
      refine lv_iconst (v := (2 : Int32)) hx hb dX6_calm_37 (by decide) ?_
      obtain ⟨r_10, hc_9, hrun⟩ := mob_s rfl hrun
      refine cRV (As := [.int p1, .int (2 : Int32)]) (ci := 0) ⟨hx, hb, hml, hown, hts⟩ hOK hz hS hP (mtX6_of l D k a Z hOK _ _ _ _ hc_9) (kX6_of hts q2136 rfl rfl ⟨Nat.le_of_ble_eq_true rfl, Nat.le_of_ble_eq_true rfl⟩) 0 rfl rfl rfl hl.1 rfl (lv_room (Nat.le_of_ble_eq_true rfl)) ⟨Nat.le_of_ble_eq_true rfl, Nat.le_of_ble_eq_true rfl⟩ dX6_calm_38 ?_
      refine lv_iconst (v := (2 : Int32)) hx hb dX6_calm_41 (by decide) ?_
      refine lv_idiv hx hb dX6_calm_42 (by decide) ?_
      obtain ⟨r_13, t_12, hc_11, hrun⟩ := mo2_s rfl hrun
      refine cWV00 (As := [.int (((24 : Int32) + ((5 : Int32) * p1)) + (2 : Int32)), .int (r_10 / (2 : Int32))]) (ci := 0) ⟨hx, hb, hml, hown, hts⟩ hOK hz hS hA hP hD (mtX6_sets l D k a Z hOK _ _ _ _ _ hc_11) (kX6_sets hts q2209 rfl rfl ⟨Nat.le_of_ble_eq_true rfl, Nat.le_of_ble_eq_true rfl⟩) 0 rfl rfl rfl hl.1 rfl (lv_room (Nat.le_of_ble_eq_true rfl)) ⟨Nat.le_of_ble_eq_true rfl, Nat.le_of_ble_eq_true rfl⟩ dX6_calm_43 (fun r_ w_ H locs hq hP hD hS => ?_)
      obtain ⟨rfl, rfl⟩ := hq
      refine lv_istore_n (lv' := [(2, .int r_13), (0, .ref (a 0)), (1, .int p1)]) hx hb dX6_calm_46 rfl hl (by decide) rfl (fun ls hl => ?_)
      refine lv_aload_n hx hb dX6_calm_47 rfl (lv_at hl 1 rfl) ?_
      refine lv_iload_n hx hb dX6_calm_48 rfl (lv_at hl 2 rfl) ?_
      refine lv_iconst (v := (2 : Int32)) hx hb dX6_calm_49 (by decide) ?_
      obtain ⟨r_15, hc_14, hrun⟩ := mob_s rfl hrun
      refine cRV (As := [.int p1, .int (2 : Int32)]) (ci := 0) ⟨hx, hb, hml, hown, hts⟩ hOK hz hS hP (mtX6_of l D k a Z hOK _ _ _ _ hc_14) (kX6_of hts q2136 rfl rfl ⟨Nat.le_of_ble_eq_true rfl, Nat.le_of_ble_eq_true rfl⟩) 0 rfl rfl rfl hl.1 rfl (lv_room (Nat.le_of_ble_eq_true rfl)) ⟨Nat.le_of_ble_eq_true rfl, Nat.le_of_ble_eq_true rfl⟩ dX6_calm_50 ?_
      cases hrun
      exact retW_i hx hb hr hlocks hP hD hS ⟨rfl, rfl⟩ dX6_calm_53
    have hrun := mif_n c_8 hrun
    refine lv_iconst (v := (0 : Int32)) hx hb dX6_calm_24 (by decide) ?_
    cases hrun
    exact retW_i hx hb hr hlocks hP hD hS ⟨rfl, rfl⟩ dX6_calm_25
  refine lv_if_ne (tgt := 13) hx hb dX6_calm_6 (by decide) (fun c_3 => ?_) (fun c_3 => ?_)
  · have hrun := mif_p (bz_nz c_3) hrun
    refine lv_iconst (v := (0 : Int32)) hx hb dX6_calm_13 (by decide) ?_
    exact hj_4 false _ _ hP hD hS ls (lv_sub hl [0, 1] rfl) hrun
  have hrun := mif_n (bz_z c_3) hrun
  refine lv_iconst (v := (1 : Int32)) hx hb dX6_calm_9 (by decide) ?_
  refine lv_goto (tgt := 14) hx hb dX6_calm_10 (by decide) ?_
  exact hj_4 true _ _ hP hD hS ls (lv_sub hl [0, 1] rfl) hrun
def rX6_gone : Room := { frames := 3, cells := 0, slots := 0, locals := 65 }
noncomputable def fX6_gone (t : Tw) : Option (Int32 × Tw) :=
  mlt (tw_s_thrown t (0 : Int32)) fun t_1 =>
  mo2 (fX6_builtBy t_1 (0 : Int32)) fun r_4 t_3 =>
  some (r_4, t_3)
theorem kX6_gone {R : Room} {s : State} {args : Array Value} {own : String} {idx mc ms : Nat} {rm : Room} (hts : ∀ w ∈ lw_all, w.before args s = true) (hl : Cond.methodLink own idx yX6_gone ∈ lw_all) (hrc : rm.cells = mc) (hrs : rm.slots = ms) (hR : rm.frames + 1 ≤ R.frames ∧ 8 + (1 + 11) + rm.locals ≤ R.locals) : CallW R s args own RX6 idx yX6_gone cX6_gone 1 (some .int) (ws_ yX6_gone cX6_gone 1 (some .int)) rm mc ms 0 :=
  cwV 0 hts (lw_V hl q2293 q2294 q115 q2295) rfl hrc hrs (by decide +kernel) hR
set_option maxHeartbeats 4000000 in
set_option maxRecDepth 100000 in
theorem mtX6_gone (l : Launch) (D : va_G) (k : Nat → ClassId) (a : Nat → Nat) (Z : zZ) (hOK : zOK D zCl (zTys k) Z) (t : Tw) (r : Int32) (tt : Tw) (hrun : fX6_gone t = some (r, tt)) :
    CtW l yX6_gone cX6_gone 1 (some .int) rX6_gone Z D zCl (cT k a t) [.ref (a 0)] (fun r' w' => r' = (some (.int r)) ∧ w' = cT k a tt) 0 0 := by
  refine CtW.of (by decide) (Nat.le_of_ble_eq_true rfl) ?_
  intro p e s m args below meth c A hE hA hP hD hS hz ls hl
  obtain ⟨hx, hb, hr, hml, hown, hts, hlocks, hname⟩ := hE
  have hown : s.vm.findClass RX6 = some m.cls := hown
  have hK := hOK.1 _ _ _ hz
  have hl : lv_has ls 1 [(0, .ref (a 0))] := hl
  unfold fX6_gone at hrun
  refine lv_aload_n hx hb dX6_gone_0 rfl (lv_at hl 0 rfl) ?_
  refine lv_iconst (v := (0 : Int32)) hx hb dX6_gone_1 (by decide) ?_
  refine va_put (ci := 0) (v := .int (0 : Int32)) (ty := tyX6 0) (C := RX6) (T := TX6) (N := 22) hx hb hts in_X6 tyX6 tyX6_ok nmX6 hown hK hP hD hS 0 rfl rfl 0 (by decide) (hts _ q1902) (fun _ h9 => h9) rfl (tyX6_ok 0 (by decide)) rfl rfl (Nat.le_of_ble_eq_true rfl) dX6_gone_2 (fun H locs hP hD hS => ?_)
  have hP : va_P D zCl (cT k a (tw_s_thrown t (0 : Int32))) H := hP
  have hD : va_D A (cT k a (tw_s_thrown t (0 : Int32))) := hD
  obtain ⟨t_1, et_1⟩ : ∃ z : Tw, z = (tw_s_thrown t (0 : Int32)) := ⟨_, rfl⟩
  rw [← et_1] at hP hD
  have hrun := mlt_s hrun t_1 et_1
  refine lv_aload_n hx hb dX6_gone_5 rfl (lv_at hl 0 rfl) ?_
  refine lv_iconst (v := (0 : Int32)) hx hb dX6_gone_6 (by decide) ?_
  obtain ⟨r_4, t_3, hc_2, hrun⟩ := mo2_s rfl hrun
  refine cWV00 (As := [.int (0 : Int32)]) (ci := 0) ⟨hx, hb, hml, hown, hts⟩ hOK hz hS hA hP hD (mtX6_builtBy l D k a Z hOK _ _ _ _ hc_2) (kX6_builtBy hts q2296 rfl rfl ⟨Nat.le_of_ble_eq_true rfl, Nat.le_of_ble_eq_true rfl⟩) 0 rfl rfl rfl hl.1 rfl (lv_room (Nat.le_of_ble_eq_true rfl)) ⟨Nat.le_of_ble_eq_true rfl, Nat.le_of_ble_eq_true rfl⟩ dX6_gone_7 (fun r_ w_ H locs hq hP hD hS => ?_)
  obtain ⟨rfl, rfl⟩ := hq
  cases hrun
  exact retW_i hx hb hr hlocks hP hD hS ⟨rfl, rfl⟩ dX6_gone_10
def rX6_mend : Room := { frames := 3, cells := 0, slots := 0, locals := 66 }
noncomputable def fX6_mend_L9 (t_1 : Tw) : Nat → Int32 → Int32 → Option (Int32 × Tw)
  | 0, _, _ => none
  | n + 1, x1_3, x2_4 =>
    if (8 : Int32) ≤ x2_4 then
      some (x1_3, t_1)
    else
      mob (fX6_isHole t_1 x2_4 ((tw_m t_1) 4)) fun r_7 =>
      if r_7 = true then
        mob (fX6_guestsIn t_1 x2_4) fun r_10 =>
        if r_10 = (0 : Int32) then
          fX6_mend_L9 t_1 n (x1_3 + (0 : Int32)) (x2_4 + (1 : Int32))
        else
          fX6_mend_L9 t_1 n (x1_3 + (1 : Int32)) (x2_4 + (1 : Int32))
      else
        fX6_mend_L9 t_1 n (x1_3 + (0 : Int32)) (x2_4 + (1 : Int32))
noncomputable def fX6_mend (t : Tw) : Option (Int32 × Tw) :=
  mlt (tw_s_thrown t (0 : Int32)) fun t_1 =>
  fX6_mend_L9 t_1 mFU (0 : Int32) (0 : Int32)
theorem kX6_mend {R : Room} {s : State} {args : Array Value} {own : String} {idx mc ms : Nat} {rm : Room} (hts : ∀ w ∈ lw_all, w.before args s = true) (hl : Cond.methodLink own idx yX6_mend ∈ lw_all) (hrc : rm.cells = mc) (hrs : rm.slots = ms) (hR : rm.frames + 1 ≤ R.frames ∧ 8 + (3 + 11) + rm.locals ≤ R.locals) : CallW R s args own RX6 idx yX6_mend cX6_mend 3 (some .int) (ws_ yX6_mend cX6_mend 3 (some .int)) rm mc ms 0 :=
  cwV 0 hts (lw_V hl q2323 q2324 q115 q2325) rfl hrc hrs (by decide +kernel) hR
set_option maxHeartbeats 4000000 in
set_option maxRecDepth 100000 in
theorem mtX6_mend (l : Launch) (D : va_G) (k : Nat → ClassId) (a : Nat → Nat) (Z : zZ) (hOK : zOK D zCl (zTys k) Z) (t : Tw) (r : Int32) (tt : Tw) (hrun : fX6_mend t = some (r, tt)) :
    CtW l yX6_mend cX6_mend 3 (some .int) rX6_mend Z D zCl (cT k a t) [.ref (a 0)] (fun r' w' => r' = (some (.int r)) ∧ w' = cT k a tt) 0 0 := by
  refine CtW.of (by decide) (Nat.le_of_ble_eq_true rfl) ?_
  intro p e s m args below meth c A hE hA hP hD hS hz ls hl
  obtain ⟨hx, hb, hr, hml, hown, hts, hlocks, hname⟩ := hE
  have hown : s.vm.findClass RX6 = some m.cls := hown
  have hK := hOK.1 _ _ _ hz
  have hl : lv_has ls 3 [(0, .ref (a 0))] := hl
  unfold fX6_mend at hrun
  refine lv_aload_n hx hb dX6_mend_0 rfl (lv_at hl 0 rfl) ?_
  refine lv_iconst (v := (0 : Int32)) hx hb dX6_mend_1 (by decide) ?_
  refine va_put (ci := 0) (v := .int (0 : Int32)) (ty := tyX6 0) (C := RX6) (T := TX6) (N := 22) hx hb hts in_X6 tyX6 tyX6_ok nmX6 hown hK hP hD hS 0 rfl rfl 0 (by decide) (hts _ q1902) (fun _ h9 => h9) rfl (tyX6_ok 0 (by decide)) rfl rfl (Nat.le_of_ble_eq_true rfl) dX6_mend_2 (fun H locs hP hD hS => ?_)
  have hP : va_P D zCl (cT k a (tw_s_thrown t (0 : Int32))) H := hP
  have hD : va_D A (cT k a (tw_s_thrown t (0 : Int32))) := hD
  obtain ⟨t_1, et_1⟩ : ∃ z : Tw, z = (tw_s_thrown t (0 : Int32)) := ⟨_, rfl⟩
  rw [← et_1] at hP hD
  have hrun := mlt_s hrun t_1 et_1
  refine lv_iconst (v := (0 : Int32)) hx hb dX6_mend_5 (by decide) ?_
  refine lv_istore_n (lv' := [(1, .int (0 : Int32)), (0, .ref (a 0))]) hx hb dX6_mend_6 rfl hl (by decide) rfl (fun ls hl => ?_)
  refine lv_iconst (v := (0 : Int32)) hx hb dX6_mend_7 (by decide) ?_
  refine lv_istore_n (lv' := [(2, .int (0 : Int32)), (1, .int (0 : Int32)), (0, .ref (a 0))]) hx hb dX6_mend_8 rfl hl (by decide) rfl (fun ls hl => ?_)
  have hL_2 : ∀ n : Nat, ∀ (x1_3 : Int32) (x2_4 : Int32), ∀ (H : Heap) (locs : List Loc), va_P D zCl (cT k a t_1) H → va_D A (cT k a t_1) → va_S A s.heap H locs → ∀ ls : Array Slot, lv_has ls 3 [(0, .ref (a 0)), (1, .int x1_3), (2, .int x2_4)] → fX6_mend_L9 t_1 n x1_3 x2_4 = some (r, tt) → W p l e rX6_mend s m args below meth c H locs 0 0 (MQ below (QWr (fun r' w' => r' = (some (.int r)) ∧ w' = cT k a tt) D zCl A) args s 0 0 A) (F0 m 9 ls []) := by
    intro n
    induction n with
    | zero =>
      intro x1_3 x2_4 H locs hP hD hS ls hl hrun
      exact nomatch hrun
    | succ n ih =>
      intro x1_3 x2_4 H locs hP hD hS ls hl hrun
      rw [fX6_mend_L9.eq_2] at hrun
      refine lv_iload_n hx hb dX6_mend_9 rfl (lv_at hl 2 rfl) ?_
      refine lv_bipush (v := (8 : Int32)) hx hb dX6_mend_10 (by decide) ?_
      refine lv_icmp_ge (tgt := 51) hx hb dX6_mend_12 (by decide) (fun c_5 => ?_) (fun c_5 => ?_)
      · have hrun := mif_p c_5 hrun
        refine lv_iload_n hx hb dX6_mend_51 rfl (lv_at hl 1 rfl) ?_
        cases hrun
        exact retW_i hx hb hr hlocks hP hD hS ⟨rfl, rfl⟩ dX6_mend_52
      have hrun := mif_n c_5 hrun
      refine lv_iload_n hx hb dX6_mend_15 rfl (lv_at hl 1 rfl) ?_
      refine lv_aload_n hx hb dX6_mend_16 rfl (lv_at hl 0 rfl) ?_
      refine lv_iload_n hx hb dX6_mend_17 rfl (lv_at hl 2 rfl) ?_
      refine lv_aload_n hx hb dX6_mend_18 rfl (lv_at hl 0 rfl) ?_
      refine va_get (ci := 0) (v := .ref (a 1)) (C := RX6) (T := TX6) (N := 22) hx hb hts in_X6 hown hK hP 0 rfl rfl 1 (by decide) (hts _ q1903) (fun _ h9 => h9) rfl dX6_mend_19 ?_
      refine lv_iconst (v := (4 : Int32)) hx hb dX6_mend_22 (by decide) ?_
      refine va_ialdk (k := 4) hx hb hK hP 1 0 rfl rfl rfl (show ¬ _ from by decide) dX6_mend_23 ?_
      obtain ⟨r_7, hc_6, hrun⟩ := mob_s rfl hrun
      refine cRV (As := [.int x2_4, .int ((tw_m t_1) 4)]) (ci := 0) ⟨hx, hb, hml, hown, hts⟩ hOK hz hS hP (mtX6_isHole l D k a Z hOK _ _ _ _ hc_6) (kX6_isHole hts q2171 rfl rfl ⟨Nat.le_of_ble_eq_true rfl, Nat.le_of_ble_eq_true rfl⟩) 0 rfl rfl rfl hl.1 rfl (lv_room (Nat.le_of_ble_eq_true rfl)) ⟨Nat.le_of_ble_eq_true rfl, Nat.le_of_ble_eq_true rfl⟩ dX6_mend_24 ?_
      refine lv_if_eq (tgt := 42) hx hb dX6_mend_27 (by decide) (fun c_8 => ?_) (fun c_8 => ?_)
      · have hrun := mif_n (bz_z c_8) hrun
        refine lv_iconst (v := (0 : Int32)) hx hb dX6_mend_42 (by decide) ?_
        refine lv_iadd hx hb dX6_mend_43 ?_
        refine lv_istore_n (lv' := [(1, .int (x1_3 + (0 : Int32))), (0, .ref (a 0)), (2, .int x2_4)]) hx hb dX6_mend_44 rfl hl (by decide) rfl (fun ls hl => ?_)
        refine lv_iinc (v := (x2_4 + (1 : Int32))) (lv' := [(2, .int (x2_4 + (1 : Int32))), (1, .int (x1_3 + (0 : Int32))), (0, .ref (a 0))]) hx hb dX6_mend_45 hl (k := 2) rfl rfl (by decide) rfl (fun ls hl => ?_)
        refine lv_goto (tgt := 9) hx hb dX6_mend_48 (by decide) ?_
        exact ih (x1_3 + (0 : Int32)) (x2_4 + (1 : Int32)) _ _ hP hD hS ls (lv_sub hl [2, 1, 0] rfl) hrun
      have hrun := mif_p (bz_nz c_8) hrun
      refine lv_aload_n hx hb dX6_mend_30 rfl (lv_at hl 0 rfl) ?_
      refine lv_iload_n hx hb dX6_mend_31 rfl (lv_at hl 2 rfl) ?_
      obtain ⟨r_10, hc_9, hrun⟩ := mob_s rfl hrun
      refine cRV (As := [.int x2_4]) (ci := 0) ⟨hx, hb, hml, hown, hts⟩ hOK hz hS hP (mtX6_guestsIn l D k a Z hOK _ _ _ hc_9) (kX6_guestsIn hts q2189 rfl rfl ⟨Nat.le_of_ble_eq_true rfl, Nat.le_of_ble_eq_true rfl⟩) 0 rfl rfl rfl hl.1 rfl (lv_room (Nat.le_of_ble_eq_true rfl)) ⟨Nat.le_of_ble_eq_true rfl, Nat.le_of_ble_eq_true rfl⟩ dX6_mend_32 ?_
      refine lv_if_eq (tgt := 42) hx hb dX6_mend_35 (by decide) (fun c_11 => ?_) (fun c_11 => ?_)
      · have hrun := mif_p c_11 hrun
        refine lv_iconst (v := (0 : Int32)) hx hb dX6_mend_42 (by decide) ?_
        refine lv_iadd hx hb dX6_mend_43 ?_
        refine lv_istore_n (lv' := [(1, .int (x1_3 + (0 : Int32))), (0, .ref (a 0)), (2, .int x2_4)]) hx hb dX6_mend_44 rfl hl (by decide) rfl (fun ls hl => ?_)
        refine lv_iinc (v := (x2_4 + (1 : Int32))) (lv' := [(2, .int (x2_4 + (1 : Int32))), (1, .int (x1_3 + (0 : Int32))), (0, .ref (a 0))]) hx hb dX6_mend_45 hl (k := 2) rfl rfl (by decide) rfl (fun ls hl => ?_)
        refine lv_goto (tgt := 9) hx hb dX6_mend_48 (by decide) ?_
        exact ih (x1_3 + (0 : Int32)) (x2_4 + (1 : Int32)) _ _ hP hD hS ls (lv_sub hl [2, 1, 0] rfl) hrun
      have hrun := mif_n c_11 hrun
      refine lv_iconst (v := (1 : Int32)) hx hb dX6_mend_38 (by decide) ?_
      refine lv_goto (tgt := 43) hx hb dX6_mend_39 (by decide) ?_
      refine lv_iadd hx hb dX6_mend_43 ?_
      refine lv_istore_n (lv' := [(1, .int (x1_3 + (1 : Int32))), (0, .ref (a 0)), (2, .int x2_4)]) hx hb dX6_mend_44 rfl hl (by decide) rfl (fun ls hl => ?_)
      refine lv_iinc (v := (x2_4 + (1 : Int32))) (lv' := [(2, .int (x2_4 + (1 : Int32))), (1, .int (x1_3 + (1 : Int32))), (0, .ref (a 0))]) hx hb dX6_mend_45 hl (k := 2) rfl rfl (by decide) rfl (fun ls hl => ?_)
      refine lv_goto (tgt := 9) hx hb dX6_mend_48 (by decide) ?_
      exact ih (x1_3 + (1 : Int32)) (x2_4 + (1 : Int32)) _ _ hP hD hS ls (lv_sub hl [2, 1, 0] rfl) hrun
  exact hL_2 mFU (0 : Int32) (0 : Int32) _ _ hP hD hS ls (lv_sub hl [2, 1, 0] rfl) hrun
