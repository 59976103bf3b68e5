/-! walks: X6_span, X6_house, X6_guest, X6_days -/
def rX6_span : Room := { frames := 40, cells := 0, slots := 0, locals := 1080 }
noncomputable def fX6_span_L37 (p1 : Int32) (p2 : Bool) : Nat → Int32 → Int32 → Tw → Option (Int32 × Tw)
  | 0, _, _, _ => none
  | n + 1, x3_12, x4_13, t_14 =>
    if (6 : Int32) < x4_13 then
      some (x3_12, t_14)
    else
      mlt (tw_s_m t_14 (upd (tw_m t_14) 15 x4_13)) fun t_16 =>
      mo2 (fX6_goes t_16 p1 true) fun r_19 t_18 =>
      mob (fX6_comesBack t_18) fun t_21 =>
      if x3_12 = (-1 : Int32) then
        fX6_span_L37 p1 p2 n r_19 (x4_13 + (1 : Int32)) t_21
      else
        if p2 = true then
          mob (fX6_greater x3_12 r_19) fun r_27 =>
          fX6_span_L37 p1 p2 n r_27 (x4_13 + (1 : Int32)) t_21
        else
          mob (fX6_lesser x3_12 r_19) fun r_25 =>
          fX6_span_L37 p1 p2 n r_25 (x4_13 + (1 : Int32)) t_21
noncomputable def fX6_span (t : Tw) (p1 : Int32) (p2 : Bool) : Option (Int32 × Tw) :=
  mob (fX6_isIn p1 (0 : Int32) (60 : Int32)) fun r_2 =>
  mjn (fun (y_5 : Bool) =>
  mlt (tw_s_thrown t (bz y_5)) fun t_7 =>
  if (tw_thrown t_7) ≤ (0 : Int32) then
    mob (fX6_putsAside t_7) fun t_10 =>
    fX6_span_L37 p1 p2 mFU (-1 : Int32) (1 : Int32) t_10
  else
    some ((0 : Int32), t_7)) fun K_6 =>
  if r_2 = true then
    K_6 false
  else
    K_6 true
theorem kX6_span {R : Room} {s : State} {args : Array Value} {own : String} {idx mc ms : Nat} {rm : Room} (hts : ∀ w ∈ lw_all, w.before args s = true) (hl : Cond.methodLink own idx yX6_span ∈ lw_all) (hrc : rm.cells = mc) (hrs : rm.slots = ms) (hR : rm.frames + 1 ≤ R.frames ∧ 8 + (6 + 11) + rm.locals ≤ R.locals) : CallW R s args own RX6 idx yX6_span cX6_span 6 (some .int) (ws_ yX6_span cX6_span 6 (some .int)) rm mc ms 2 :=
  cwV 2 hts (lw_V hl q2452 q2453 q115 q2454) rfl hrc hrs (by decide +kernel) hR
set_option maxHeartbeats 4000000 in
set_option maxRecDepth 100000 in
theorem mtX6_span (l : Launch) (D : va_G) (k : Nat → ClassId) (a : Nat → Nat) (Z : zZ) (hOK : zOK D zCl (zTys k) Z) {adK adV : Nat → Nat} (hStr : zStr Z adK adV) (t : Tw) (p1 : Int32) (p2 : Bool) (r : Int32) (tt : Tw) (hrun : fX6_span t p1 p2 = some (r, tt)) :
    CtW l yX6_span cX6_span 6 (some .int) rX6_span Z D zCl (cT k a t) [.ref (a 0), .int p1, .int (bz p2)] (fun r' w' => r' = (some (.int r)) ∧ w' = cT k a tt) 0 0 := by
  refine CtW.of (by decide) (Nat.le_of_ble_eq_true rfl) ?_
  intro p e s m args below meth c A hE hA hP hD hS hz ls hl
  obtain ⟨hx, hb, hr, hml, hown, hts, hlocks, hname⟩ := hE
  have hown : s.vm.findClass RX6 = some m.cls := hown
  have hK := hOK.1 _ _ _ hz
  have hl : lv_has ls 6 [(0, .ref (a 0)), (1, .int p1), (2, .int (bz p2))] := hl
  unfold fX6_span at hrun
  refine lv_aload_n hx hb dX6_span_0 rfl (lv_at hl 0 rfl) ?_
  refine lv_iload_n hx hb dX6_span_1 rfl (lv_at hl 1 rfl) ?_
  refine lv_iconst (v := (0 : Int32)) hx hb dX6_span_2 (by decide) ?_
  refine lv_bipush (v := (60 : Int32)) hx hb dX6_span_3 (by decide) ?_
  obtain ⟨r_2, hc_1, hrun⟩ := mob_s rfl hrun
  refine cRS (ws := []) (As := [.int p1, .int (0 : Int32), .int (60 : Int32)]) ⟨hx, hb, hml, hown, hts⟩ hOK hz hS zP0 (mtX6_isIn l D Z hOK _ _ _ _ hc_1) (kX6_isIn hts q1981 rfl rfl ⟨Nat.le_of_ble_eq_true rfl, Nat.le_of_ble_eq_true rfl⟩) rfl hl.1 rfl (lv_room (Nat.le_of_ble_eq_true rfl)) ⟨Nat.le_of_ble_eq_true rfl, Nat.le_of_ble_eq_true rfl⟩ dX6_span_5 ?_
  obtain ⟨K_6, hK_6, hrun⟩ := mjn_s hrun
  have hj_4 : ∀ (y_5 : Bool), ∀ (H : Heap) (locs : List Loc), va_P D zCl (cT k a t) H → va_D A (cT k a t) → va_S A s.heap H locs → ∀ ls : Array Slot, lv_has ls 6 [(0, .ref (a 0)), (1, .int p1), (2, .int (bz p2))] → K_6 y_5 = some (r, tt) → W p l e rX6_span s m args below meth c H locs 0 0 (MQ below (QWr (fun r' w' => r' = (some (.int r)) ∧ w' = cT k a tt) D zCl A) args s 0 0 A) (F0 m 16 ls [.int (bz y_5), .ref (a 0)]) := by
    intro y_5 H locs hP hD hS ls hl hrun
    rw [hK_6] at hrun
    refine va_put (ci := 0) (v := .int (bz y_5)) (ty := tyX6 0) (C := RX6) (T := TX6) (N := 22) hx hb hts in_X6 tyX6 tyX6_ok nmX6 hown hK hP hD hS 0 rfl rfl 0 (by decide) (hts _ q1902) (fun _ h9 => h9) rfl (tyX6_ok 0 (by decide)) rfl rfl (Nat.le_of_ble_eq_true rfl) dX6_span_16 (fun H locs hP hD hS => ?_)
    have hP : va_P D zCl (cT k a (tw_s_thrown t (bz y_5))) H := hP
    have hD : va_D A (cT k a (tw_s_thrown t (bz y_5))) := hD
    obtain ⟨t_7, et_7⟩ : ∃ z : Tw, z = (tw_s_thrown t (bz y_5)) := ⟨_, rfl⟩
    rw [← et_7] at hP hD
    have hrun := mlt_s hrun t_7 et_7
    refine lv_aload_n hx hb dX6_span_19 rfl (lv_at hl 0 rfl) ?_
    refine va_get (ci := 0) (v := .int (tw_thrown t_7)) (C := RX6) (T := TX6) (N := 22) hx hb hts in_X6 hown hK hP 0 rfl rfl 0 (by decide) (hts _ q1902) (fun _ h9 => h9) rfl dX6_span_20 ?_
    refine lv_if_le (tgt := 28) hx hb dX6_span_23 (by decide) (fun c_8 => ?_) (fun c_8 => ?_)
    · have hrun := mif_p c_8 hrun
      refine lv_aload_n hx hb dX6_span_28 rfl (lv_at hl 0 rfl) ?_
      obtain ⟨t_10, hc_9, hrun⟩ := mob_s rfl hrun
      refine cWV00 (As := []) (ci := 0) ⟨hx, hb, hml, hown, hts⟩ hOK hz hS hA hP hD (mtX6_putsAside l D k a Z hOK _ _ hc_9) (kX6_putsAside hts q1988 rfl rfl ⟨Nat.le_of_ble_eq_true rfl, Nat.le_of_ble_eq_true rfl⟩) 0 rfl rfl rfl hl.1 rfl (lv_room (Nat.le_of_ble_eq_true rfl)) ⟨Nat.le_of_ble_eq_true rfl, Nat.le_of_ble_eq_true rfl⟩ dX6_span_29 (fun r_ w_ H locs hq hP hD hS => ?_)
      obtain ⟨rfl, rfl⟩ := hq
      refine lv_iconst (v := (-1 : Int32)) hx hb dX6_span_32 (by decide) ?_
      refine lv_istore_n (lv' := [(3, .int (-1 : Int32)), (0, .ref (a 0)), (1, .int p1), (2, .int (bz p2))]) hx hb dX6_span_33 rfl hl (by decide) rfl (fun ls hl => ?_)
      refine lv_iconst (v := (1 : Int32)) hx hb dX6_span_34 (by decide) ?_
      refine lv_istore (lv' := [(4, .int (1 : Int32)), (3, .int (-1 : Int32)), (0, .ref (a 0)), (1, .int p1), (2, .int (bz p2))]) hx hb dX6_span_35 hl (by decide) rfl (fun ls hl => ?_)
      have hL_11 : ∀ n : Nat, ∀ (x3_12 : Int32) (x4_13 : Int32) (t_14 : Tw), ∀ (H : Heap) (locs : List Loc), va_P D zCl (cT k a t_14) H → va_D A (cT k a t_14) → va_S A s.heap H locs → ∀ ls : Array Slot, lv_has ls 6 [(0, .ref (a 0)), (1, .int p1), (2, .int (bz p2)), (3, .int x3_12), (4, .int x4_13)] → fX6_span_L37 p1 p2 n x3_12 x4_13 t_14 = some (r, tt) → W p l e rX6_span s m args below meth c H locs 0 0 (MQ below (QWr (fun r' w' => r' = (some (.int r)) ∧ w' = cT k a tt) D zCl A) args s 0 0 A) (F0 m 37 ls []) := by
        intro n
        induction n with
        | zero =>
          intro x3_12 x4_13 t_14 H locs hP hD hS ls hl hrun
          exact nomatch hrun
        | succ n ih =>
          intro x3_12 x4_13 t_14 H locs hP hD hS ls hl hrun
          rw [fX6_span_L37.eq_2] at hrun
          refine lv_iload hx hb dX6_span_37 (lv_at hl 4 rfl) ?_
          refine lv_bipush (v := (6 : Int32)) hx hb dX6_span_39 (by decide) ?_
          refine lv_icmp_gt (tgt := 101) hx hb dX6_span_41 (by decide) (fun c_15 => ?_) (fun c_15 => ?_)
          · have hrun := mif_p c_15 hrun
            refine lv_iload_n hx hb dX6_span_101 rfl (lv_at hl 3 rfl) ?_
            cases hrun
            exact retW_i hx hb hr hlocks hP hD hS ⟨rfl, rfl⟩ dX6_span_102
          have hrun := mif_n c_15 hrun
          refine lv_aload_n hx hb dX6_span_44 rfl (lv_at hl 0 rfl) ?_
          refine va_get (ci := 0) (v := .ref (a 1)) (C := RX6) (T := TX6) (N := 22) hx hb hts in_X6 hown hK hP 0 rfl rfl 1 (by decide) (hts _ q1903) (fun _ h9 => h9) rfl dX6_span_45 ?_
          refine lv_bipush (v := (15 : Int32)) hx hb dX6_span_48 (by decide) ?_
          refine lv_iload hx hb dX6_span_50 (lv_at hl 4 rfl) ?_
          refine va_iastk (k := 15) hx hb hK hP hD hS 1 0 rfl rfl rfl (show ¬ _ from by decide) dX6_span_52 (fun H locs hP hD hS => ?_)
          have hP : va_P D zCl (cT k a (tw_s_m t_14 (upd (tw_m t_14) 15 x4_13))) H := hP
          have hD : va_D A (cT k a (tw_s_m t_14 (upd (tw_m t_14) 15 x4_13))) := hD
          obtain ⟨t_16, et_16⟩ : ∃ z : Tw, z = (tw_s_m t_14 (upd (tw_m t_14) 15 x4_13)) := ⟨_, rfl⟩
          rw [← et_16] at hP hD
          have hrun := mlt_s hrun t_16 et_16
          refine lv_aload_n hx hb dX6_span_53 rfl (lv_at hl 0 rfl) ?_
          refine lv_iload_n hx hb dX6_span_54 rfl (lv_at hl 1 rfl) ?_
          refine lv_iconst (v := (1 : Int32)) hx hb dX6_span_55 (by decide) ?_
          obtain ⟨r_19, t_18, hc_17, hrun⟩ := mo2_s rfl hrun
          refine cWV00 (As := [.int p1, .int (bz true)]) (ci := 0) ⟨hx, hb, hml, hown, hts⟩ hOK hz hS hA hP hD (mtX6_goes l D k a Z hOK hStr _ _ _ _ _ hc_17) (kX6_goes hts q2256 rfl rfl ⟨Nat.le_of_ble_eq_true rfl, Nat.le_of_ble_eq_true rfl⟩) 0 rfl rfl rfl hl.1 rfl (lv_room (Nat.le_of_ble_eq_true rfl)) ⟨Nat.le_of_ble_eq_true rfl, Nat.le_of_ble_eq_true rfl⟩ dX6_span_56 (fun r_ w_ H locs hq hP hD hS => ?_)
          obtain ⟨rfl, rfl⟩ := hq
          refine lv_istore (lv' := [(5, .int r_19), (0, .ref (a 0)), (1, .int p1), (2, .int (bz p2)), (3, .int x3_12), (4, .int x4_13)]) hx hb dX6_span_59 hl (by decide) rfl (fun ls hl => ?_)
          refine lv_aload_n hx hb dX6_span_61 rfl (lv_at hl 1 rfl) ?_
          obtain ⟨t_21, hc_20, hrun⟩ := mob_s rfl hrun
          refine cWV00 (As := []) (ci := 0) ⟨hx, hb, hml, hown, hts⟩ hOK hz hS hA hP hD (mtX6_comesBack l D k a Z hOK _ _ hc_20) (kX6_comesBack hts q2116 rfl rfl ⟨Nat.le_of_ble_eq_true rfl, Nat.le_of_ble_eq_true rfl⟩) 0 rfl rfl rfl hl.1 rfl (lv_room (Nat.le_of_ble_eq_true rfl)) ⟨Nat.le_of_ble_eq_true rfl, Nat.le_of_ble_eq_true rfl⟩ dX6_span_62 (fun r_ w_ H locs hq hP hD hS => ?_)
          obtain ⟨rfl, rfl⟩ := hq
          refine lv_iload_n hx hb dX6_span_65 rfl (lv_at hl 4 rfl) ?_
          refine lv_iconst (v := (-1 : Int32)) hx hb dX6_span_66 (by decide) ?_
          refine lv_icmp_ne (tgt := 75) hx hb dX6_span_67 (by decide) (fun c_22 => ?_) (fun c_22 => ?_)
          · have hrun := mif_n c_22 hrun
            refine lv_iload_n hx hb dX6_span_75 rfl (lv_at hl 3 rfl) ?_
            refine lv_if_eq (tgt := 88) hx hb dX6_span_76 (by decide) (fun c_23 => ?_) (fun c_23 => ?_)
            · have hrun := mif_n (bz_z c_23) hrun
              refine lv_iload_n hx hb dX6_span_88 rfl (lv_at hl 4 rfl) ?_
              refine lv_iload hx hb dX6_span_89 (lv_at hl 0 rfl) ?_
              obtain ⟨r_25, hc_24, hrun⟩ := mob_s rfl hrun
              refine cRS (ws := []) (As := [.int x3_12, .int r_19]) ⟨hx, hb, hml, hown, hts⟩ hOK hz hS zP0 (mtX6_lesser l D Z hOK _ _ _ hc_24) (kX6_lesser hts q2245 rfl rfl ⟨Nat.le_of_ble_eq_true rfl, Nat.le_of_ble_eq_true rfl⟩) rfl hl.1 rfl (lv_room (Nat.le_of_ble_eq_true rfl)) ⟨Nat.le_of_ble_eq_true rfl, Nat.le_of_ble_eq_true rfl⟩ dX6_span_91 ?_
              refine lv_istore_n (lv' := [(3, .int r_25), (5, .int r_19), (0, .ref (a 0)), (1, .int p1), (2, .int (bz p2)), (4, .int x4_13)]) hx hb dX6_span_94 rfl hl (by decide) rfl (fun ls hl => ?_)
              refine lv_iinc (v := (x4_13 + (1 : Int32))) (lv' := [(4, .int (x4_13 + (1 : Int32))), (3, .int r_25), (5, .int r_19), (0, .ref (a 0)), (1, .int p1), (2, .int (bz p2))]) hx hb dX6_span_95 hl (k := 5) rfl rfl (by decide) rfl (fun ls hl => ?_)
              refine lv_goto (tgt := 37) hx hb dX6_span_98 (by decide) ?_
              exact ih r_25 (x4_13 + (1 : Int32)) t_21 _ _ hP hD hS ls (lv_sub hl [3, 4, 5, 1, 0] rfl) hrun
            have hrun := mif_p (bz_nz c_23) hrun
            refine lv_iload_n hx hb dX6_span_79 rfl (lv_at hl 4 rfl) ?_
            refine lv_iload hx hb dX6_span_80 (lv_at hl 0 rfl) ?_
            obtain ⟨r_27, hc_26, hrun⟩ := mob_s rfl hrun
            refine cRS (ws := []) (As := [.int x3_12, .int r_19]) ⟨hx, hb, hml, hown, hts⟩ hOK hz hS zP0 (mtX6_greater l D Z hOK _ _ _ hc_26) (kX6_greater hts q2260 rfl rfl ⟨Nat.le_of_ble_eq_true rfl, Nat.le_of_ble_eq_true rfl⟩) rfl hl.1 rfl (lv_room (Nat.le_of_ble_eq_true rfl)) ⟨Nat.le_of_ble_eq_true rfl, Nat.le_of_ble_eq_true rfl⟩ dX6_span_82 ?_
            refine lv_goto (tgt := 94) hx hb dX6_span_85 (by decide) ?_
            refine lv_istore_n (lv' := [(3, .int r_27), (5, .int r_19), (0, .ref (a 0)), (1, .int p1), (2, .int (bz p2)), (4, .int x4_13)]) hx hb dX6_span_94 rfl hl (by decide) rfl (fun ls hl => ?_)
            refine lv_iinc (v := (x4_13 + (1 : Int32))) (lv' := [(4, .int (x4_13 + (1 : Int32))), (3, .int r_27), (5, .int r_19), (0, .ref (a 0)), (1, .int p1), (2, .int (bz p2))]) hx hb dX6_span_95 hl (k := 5) rfl rfl (by decide) rfl (fun ls hl => ?_)
            refine lv_goto (tgt := 37) hx hb dX6_span_98 (by decide) ?_
            exact ih r_27 (x4_13 + (1 : Int32)) t_21 _ _ hP hD hS ls (lv_sub hl [3, 4, 5, 1, 0] rfl) hrun
          have hrun := mif_p c_22 hrun
          refine lv_iload hx hb dX6_span_70 (lv_at hl 0 rfl) ?_
          refine lv_goto (tgt := 94) hx hb dX6_span_72 (by decide) ?_
          refine lv_istore_n (lv' := [(3, .int r_19), (5, .int r_19), (0, .ref (a 0)), (1, .int p1), (2, .int (bz p2)), (4, .int x4_13)]) hx hb dX6_span_94 rfl hl (by decide) rfl (fun ls hl => ?_)
          refine lv_iinc (v := (x4_13 + (1 : Int32))) (lv' := [(4, .int (x4_13 + (1 : Int32))), (3, .int r_19), (5, .int r_19), (0, .ref (a 0)), (1, .int p1), (2, .int (bz p2))]) hx hb dX6_span_95 hl (k := 5) rfl rfl (by decide) rfl (fun ls hl => ?_)
          refine lv_goto (tgt := 37) hx hb dX6_span_98 (by decide) ?_
          exact ih r_19 (x4_13 + (1 : Int32)) t_21 _ _ hP hD hS ls (lv_sub hl [3, 4, 5, 1, 0] rfl) hrun
      exact hL_11 mFU (-1 : Int32) (1 : Int32) t_10 _ _ hP hD hS ls (lv_sub hl [2, 3, 4, 1, 0] rfl) hrun
    have hrun := mif_n c_8 hrun
    refine lv_iconst (v := (0 : Int32)) hx hb dX6_span_26 (by decide) ?_
    cases hrun
    exact retW_i hx hb hr hlocks hP hD hS ⟨rfl, rfl⟩ dX6_span_27
  refine lv_if_ne (tgt := 15) hx hb dX6_span_8 (by decide) (fun c_3 => ?_) (fun c_3 => ?_)
  · have hrun := mif_p (bz_nz c_3) hrun
    refine lv_iconst (v := (0 : Int32)) hx hb dX6_span_15 (by decide) ?_
    exact hj_4 false _ _ hP hD hS ls (lv_sub hl [0, 1, 2] rfl) hrun
  have hrun := mif_n (bz_z c_3) hrun
  refine lv_iconst (v := (1 : Int32)) hx hb dX6_span_11 (by decide) ?_
  refine lv_goto (tgt := 16) hx hb dX6_span_12 (by decide) ?_
  exact hj_4 true _ _ hP hD hS ls (lv_sub hl [0, 1, 2] rfl) hrun
def rX6_house : Room := { frames := 38, cells := 0, slots := 0, locals := 1031 }
noncomputable def fX6_house (t : Tw) : Option (Int32 × Tw) :=
  mob (fX6_putsAside t) fun t_2 =>
  mob (fX6_begins t_2) fun t_4 =>
  mo2 (fX6_read t_4 false) fun r_7 t_6 =>
  mjn (fun (y_10 : Int32) =>
  mlt (tw_s_thrown t_6 y_10) fun t_12 =>
  if (tw_thrown t_12) ≤ (0 : Int32) then
    mlt (tw_s_m t_12 (upd (tw_m t_12) 0 (((tw_m t_12) 0) + (1 : Int32)))) fun t_14 =>
    mlt (tw_s_acted t_14 (0 : Int32)) fun t_15 =>
    some (((tw_m t_15) 0), t_15)
  else
    mob (fX6_comesBack t_12) fun t_17 =>
    some ((0 : Int32), t_17)) fun K_11 =>
  if (tw_fault t_6) = (-1 : Int32) then
    if ((tw_m t_6) 0) = (12 : Int32) then
      K_11 (2 : Int32)
    else
      K_11 (0 : Int32)
  else
    K_11 (1 : Int32)
theorem kX6_house {R : Room} {s : State} {args : Array Value} {own : String} {idx mc ms : Nat} {rm : Room} (hts : ∀ w ∈ lw_all, w.before args s = true) (hl : Cond.methodLink own idx yX6_house ∈ lw_all) (hrc : rm.cells = mc) (hrs : rm.slots = ms) (hR : rm.frames + 1 ≤ R.frames ∧ 8 + (2 + 11) + rm.locals ≤ R.locals) : CallW R s args own RX6 idx yX6_house cX6_house 2 (some .int) (ws_ yX6_house cX6_house 2 (some .int)) rm mc ms 0 :=
  cwV 0 hts (lw_V hl q1985 q1986 q115 q1987) rfl hrc hrs (by decide +kernel) hR
set_option maxHeartbeats 4000000 in
set_option maxRecDepth 100000 in
theorem mtX6_house (l : Launch) (D : va_G) (k : Nat → ClassId) (a : Nat → Nat) (Z : zZ) (hOK : zOK D zCl (zTys k) Z) {adK adV : Nat → Nat} (hStr : zStr Z adK adV) (t : Tw) (r : Int32) (tt : Tw) (hrun : fX6_house t = some (r, tt)) :
    CtW l yX6_house cX6_house 2 (some .int) rX6_house Z D zCl (cT k a t) [.ref (a 0)] (fun r' w' => r' = (some (.int r)) ∧ w' = cT k a tt) 0 0 := by
  refine CtW.of (by decide) (Nat.le_of_ble_eq_true rfl) ?_
  intro p e s m args below meth c A hE hA hP hD hS hz ls hl
  obtain ⟨hx, hb, hr, hml, hown, hts, hlocks, hname⟩ := hE
  have hown : s.vm.findClass RX6 = some m.cls := hown
  have hK := hOK.1 _ _ _ hz
  have hl : lv_has ls 2 [(0, .ref (a 0))] := hl
  unfold fX6_house at hrun
  refine lv_aload_n hx hb dX6_house_0 rfl (lv_at hl 0 rfl) ?_
  obtain ⟨t_2, hc_1, hrun⟩ := mob_s rfl hrun
  refine cWV00 (As := []) (ci := 0) ⟨hx, hb, hml, hown, hts⟩ hOK hz hS hA hP hD (mtX6_putsAside l D k a Z hOK _ _ hc_1) (kX6_putsAside hts q1988 rfl rfl ⟨Nat.le_of_ble_eq_true rfl, Nat.le_of_ble_eq_true rfl⟩) 0 rfl rfl rfl hl.1 rfl (lv_room (Nat.le_of_ble_eq_true rfl)) ⟨Nat.le_of_ble_eq_true rfl, Nat.le_of_ble_eq_true rfl⟩ dX6_house_1 (fun r_ w_ H locs hq hP hD hS => ?_)
  obtain ⟨rfl, rfl⟩ := hq
  refine lv_aload_n hx hb dX6_house_4 rfl (lv_at hl 0 rfl) ?_
  obtain ⟨t_4, hc_3, hrun⟩ := mob_s rfl hrun
  refine cWV00 (As := []) (ci := 0) ⟨hx, hb, hml, hown, hts⟩ hOK hz hS hA hP hD (mtX6_begins l D k a Z hOK _ _ hc_3) (kX6_begins hts q1992 rfl rfl ⟨Nat.le_of_ble_eq_true rfl, Nat.le_of_ble_eq_true rfl⟩) 0 rfl rfl rfl hl.1 rfl (lv_room (Nat.le_of_ble_eq_true rfl)) ⟨Nat.le_of_ble_eq_true rfl, Nat.le_of_ble_eq_true rfl⟩ dX6_house_5 (fun r_ w_ H locs hq hP hD hS => ?_)
  obtain ⟨rfl, rfl⟩ := hq
  refine lv_aload_n hx hb dX6_house_8 rfl (lv_at hl 0 rfl) ?_
  refine lv_iconst (v := (0 : Int32)) hx hb dX6_house_9 (by decide) ?_
  obtain ⟨r_7, t_6, hc_5, hrun⟩ := mo2_s rfl hrun
  refine cWV00 (As := [.int (bz false)]) (ci := 0) ⟨hx, hb, hml, hown, hts⟩ hOK hz hS hA hP hD (mtX6_read l D k a Z hOK hStr _ _ _ _ hc_5) (kX6_read hts q1996 rfl rfl ⟨Nat.le_of_ble_eq_true rfl, Nat.le_of_ble_eq_true rfl⟩) 0 rfl rfl rfl hl.1 rfl (lv_room (Nat.le_of_ble_eq_true rfl)) ⟨Nat.le_of_ble_eq_true rfl, Nat.le_of_ble_eq_true rfl⟩ dX6_house_10 (fun r_ w_ H locs hq hP hD hS => ?_)
  obtain ⟨rfl, rfl⟩ := hq
  refine lv_istore_n (lv' := [(1, .int r_7), (0, .ref (a 0))]) hx hb dX6_house_13 rfl hl (by decide) rfl (fun ls hl => ?_)
  refine lv_aload_n hx hb dX6_house_14 rfl (lv_at hl 1 rfl) ?_
  refine lv_aload_n hx hb dX6_house_15 rfl (lv_at hl 1 rfl) ?_
  refine va_get (ci := 0) (v := .int (tw_fault t_6)) (C := RX6) (T := TX6) (N := 22) hx hb hts in_X6 hown hK hP 0 rfl rfl 12 (by decide) (hts _ q1914) (fun _ h9 => h9) rfl dX6_house_16 ?_
  refine lv_iconst (v := (-1 : Int32)) hx hb dX6_house_19 (by decide) ?_
  obtain ⟨K_11, hK_11, hrun⟩ := mjn_s hrun
  have hj_9 : ∀ (y_10 : Int32), ∀ (H : Heap) (locs : List Loc), va_P D zCl (cT k a t_6) H → va_D A (cT k a t_6) → va_S A s.heap H locs → ∀ ls : Array Slot, lv_has ls 2 [(0, .ref (a 0))] → K_11 y_10 = some (r, tt) → W p l e rX6_house s m args below meth c H locs 0 0 (MQ below (QWr (fun r' w' => r' = (some (.int r)) ∧ w' = cT k a tt) D zCl A) args s 0 0 A) (F0 m 43 ls [.int y_10, .ref (a 0)]) := by
    intro y_10 H locs hP hD hS ls hl hrun
    rw [hK_11] at hrun
    refine va_put (ci := 0) (v := .int y_10) (ty := tyX6 0) (C := RX6) (T := TX6) (N := 22) hx hb hts in_X6 tyX6 tyX6_ok nmX6 hown hK hP hD hS 0 rfl rfl 0 (by decide) (hts _ q1902) (fun _ h9 => h9) rfl (tyX6_ok 0 (by decide)) rfl rfl (Nat.le_of_ble_eq_true rfl) dX6_house_43 (fun H locs hP hD hS => ?_)
    have hP : va_P D zCl (cT k a (tw_s_thrown t_6 y_10)) H := hP
    have hD : va_D A (cT k a (tw_s_thrown t_6 y_10)) := hD
    obtain ⟨t_12, et_12⟩ : ∃ z : Tw, z = (tw_s_thrown t_6 y_10) := ⟨_, rfl⟩
    rw [← et_12] at hP hD
    have hrun := mlt_s hrun t_12 et_12
    refine lv_aload_n hx hb dX6_house_46 rfl (lv_at hl 0 rfl) ?_
    refine va_get (ci := 0) (v := .int (tw_thrown t_12)) (C := RX6) (T := TX6) (N := 22) hx hb hts in_X6 hown hK hP 0 rfl rfl 0 (by decide) (hts _ q1902) (fun _ h9 => h9) rfl dX6_house_47 ?_
    refine lv_if_le (tgt := 59) hx hb dX6_house_50 (by decide) (fun c_13 => ?_) (fun c_13 => ?_)
    · have hrun := mif_p c_13 hrun
      refine lv_aload_n hx hb dX6_house_59 rfl (lv_at hl 0 rfl) ?_
      refine va_get (ci := 0) (v := .ref (a 1)) (C := RX6) (T := TX6) (N := 22) hx hb hts in_X6 hown hK hP 0 rfl rfl 1 (by decide) (hts _ q1903) (fun _ h9 => h9) rfl dX6_house_60 ?_
      refine lv_iconst (v := (0 : Int32)) hx hb dX6_house_63 (by decide) ?_
      refine lv_dup2_11 hx hb dX6_house_64 rfl rfl ?_
      refine va_ialdk (k := 0) hx hb hK hP 1 0 rfl rfl rfl (show ¬ _ from by decide) dX6_house_65 ?_
      refine lv_iconst (v := (1 : Int32)) hx hb dX6_house_66 (by decide) ?_
      refine lv_iadd hx hb dX6_house_67 ?_
      refine va_iastk (k := 0) hx hb hK hP hD hS 1 0 rfl rfl rfl (show ¬ _ from by decide) dX6_house_68 (fun H locs hP hD hS => ?_)
      have hP : va_P D zCl (cT k a (tw_s_m t_12 (upd (tw_m t_12) 0 (((tw_m t_12) 0) + (1 : Int32))))) H := hP
      have hD : va_D A (cT k a (tw_s_m t_12 (upd (tw_m t_12) 0 (((tw_m t_12) 0) + (1 : Int32))))) := hD
      obtain ⟨t_14, et_14⟩ : ∃ z : Tw, z = (tw_s_m t_12 (upd (tw_m t_12) 0 (((tw_m t_12) 0) + (1 : Int32)))) := ⟨_, rfl⟩
      rw [← et_14] at hP hD
      have hrun := mlt_s hrun t_14 et_14
      refine lv_aload_n hx hb dX6_house_69 rfl (lv_at hl 0 rfl) ?_
      refine lv_iconst (v := (0 : Int32)) hx hb dX6_house_70 (by decide) ?_
      refine va_put (ci := 0) (v := .int (0 : Int32)) (ty := tyX6 6) (C := RX6) (T := TX6) (N := 22) hx hb hts in_X6 tyX6 tyX6_ok nmX6 hown hK hP hD hS 0 rfl rfl 6 (by decide) (hts _ q1908) (fun _ h9 => h9) rfl (tyX6_ok 6 (by decide)) rfl rfl (Nat.le_of_ble_eq_true rfl) dX6_house_71 (fun H locs hP hD hS => ?_)
      have hP : va_P D zCl (cT k a (tw_s_acted t_14 (0 : Int32))) H := hP
      have hD : va_D A (cT k a (tw_s_acted t_14 (0 : Int32))) := hD
      obtain ⟨t_15, et_15⟩ : ∃ z : Tw, z = (tw_s_acted t_14 (0 : Int32)) := ⟨_, rfl⟩
      rw [← et_15] at hP hD
      have hrun := mlt_s hrun t_15 et_15
      refine lv_aload_n hx hb dX6_house_74 rfl (lv_at hl 0 rfl) ?_
      refine va_get (ci := 0) (v := .ref (a 1)) (C := RX6) (T := TX6) (N := 22) hx hb hts in_X6 hown hK hP 0 rfl rfl 1 (by decide) (hts _ q1903) (fun _ h9 => h9) rfl dX6_house_75 ?_
      refine lv_iconst (v := (0 : Int32)) hx hb dX6_house_78 (by decide) ?_
      refine va_ialdk (k := 0) hx hb hK hP 1 0 rfl rfl rfl (show ¬ _ from by decide) dX6_house_79 ?_
      cases hrun
      exact retW_i hx hb hr hlocks hP hD hS ⟨rfl, rfl⟩ dX6_house_80
    have hrun := mif_n c_13 hrun
    refine lv_aload_n hx hb dX6_house_53 rfl (lv_at hl 0 rfl) ?_
    obtain ⟨t_17, hc_16, hrun⟩ := mob_s rfl hrun
    refine cWV00 (As := []) (ci := 0) ⟨hx, hb, hml, hown, hts⟩ hOK hz hS hA hP hD (mtX6_comesBack l D k a Z hOK _ _ hc_16) (kX6_comesBack hts q2116 rfl rfl ⟨Nat.le_of_ble_eq_true rfl, Nat.le_of_ble_eq_true rfl⟩) 0 rfl rfl rfl hl.1 rfl (lv_room (Nat.le_of_ble_eq_true rfl)) ⟨Nat.le_of_ble_eq_true rfl, Nat.le_of_ble_eq_true rfl⟩ dX6_house_54 (fun r_ w_ H locs hq hP hD hS => ?_)
    obtain ⟨rfl, rfl⟩ := hq
    refine lv_iconst (v := (0 : Int32)) hx hb dX6_house_57 (by decide) ?_
    cases hrun
    exact retW_i hx hb hr hlocks hP hD hS ⟨rfl, rfl⟩ dX6_house_58
  refine lv_icmp_eq (tgt := 27) hx hb dX6_house_20 (by decide) (fun c_8 => ?_) (fun c_8 => ?_)
  · have hrun := mif_p c_8 hrun
    refine lv_aload_n hx hb dX6_house_27 rfl (lv_at hl 1 rfl) ?_
    refine va_get (ci := 0) (v := .ref (a 1)) (C := RX6) (T := TX6) (N := 22) hx hb hts in_X6 hown hK hP 0 rfl rfl 1 (by decide) (hts _ q1903) (fun _ h9 => h9) rfl dX6_house_28 ?_
    refine lv_iconst (v := (0 : Int32)) hx hb dX6_house_31 (by decide) ?_
    refine va_ialdk (k := 0) hx hb hK hP 1 0 rfl rfl rfl (show ¬ _ from by decide) dX6_house_32 ?_
    refine lv_bipush (v := (12 : Int32)) hx hb dX6_house_33 (by decide) ?_
    refine lv_icmp_ne (tgt := 42) hx hb dX6_house_35 (by decide) (fun c_18 => ?_) (fun c_18 => ?_)
    · have hrun := mif_n c_18 hrun
      refine lv_iconst (v := (0 : Int32)) hx hb dX6_house_42 (by decide) ?_
      exact hj_9 (0 : Int32) _ _ hP hD hS ls (lv_sub hl [1] rfl) hrun
    have hrun := mif_p c_18 hrun
    refine lv_iconst (v := (2 : Int32)) hx hb dX6_house_38 (by decide) ?_
    refine lv_goto (tgt := 43) hx hb dX6_house_39 (by decide) ?_
    exact hj_9 (2 : Int32) _ _ hP hD hS ls (lv_sub hl [1] rfl) hrun
  have hrun := mif_n c_8 hrun
  refine lv_iconst (v := (1 : Int32)) hx hb dX6_house_23 (by decide) ?_
  refine lv_goto (tgt := 43) hx hb dX6_house_24 (by decide) ?_
  exact hj_9 (1 : Int32) _ _ hP hD hS ls (lv_sub hl [1] rfl) hrun
def rX6_guest : Room := { frames := 39, cells := 0, slots := 0, locals := 1054 }
noncomputable def fX6_guest_L120 (t_7 : Tw) (p1 : Int32) : Nat → Int32 → Int32 → Option (Int32 × Tw)
  | 0, _, _ => none
  | n + 1, x3_14, x4_15 =>
    if (8 : Int32) ≤ x4_15 then
      some (x3_14, t_7)
    else
      mob (fX6_sees t_7 p1 x4_15) fun r_18 =>
      if r_18 = true then
        fX6_guest_L120 t_7 p1 n (x3_14 ||| ((1 : Int32) <<< (x4_15 &&& (31 : Int32)))) (x4_15 + (1 : Int32))
      else
        fX6_guest_L120 t_7 p1 n (x3_14 ||| (0 : Int32)) (x4_15 + (1 : Int32))
noncomputable def fX6_guest (t : Tw) (p1 : Int32) (p2 : Int32) : Option (Int32 × Tw) :=
  mob (fX6_isGuest t p1) fun r_2 =>
  mjn (fun (y_5 : Int32) =>
  mlt (tw_s_thrown t y_5) fun t_7 =>
  if (tw_thrown t_7) ≤ (0 : Int32) then
    if (5 : Int32) ≤ p2 then
      if p2 = (5 : Int32) then
        mob (fX6_risk t_7 p1) fun r_36 =>
        some (r_36, t_7)
      else
        if p2 = (6 : Int32) then
          mo2 (fX6_turnsBy t_7 p1) fun r_34 t_33 =>
          some (r_34, t_33)
        else
          if p2 = (8 : Int32) then
            mob (fX6_isHere t_7 p1) fun r_22 =>
            if r_22 = true then
              mob (fX6_doubts t_7) fun r_25 =>
              if r_25 = (0 : Int32) then
                some ((0 : Int32), t_7)
              else
                mob (fX6_of t_7 p1 (2 : Int32)) fun r_28 =>
                mob (fX6_doubts t_7) fun r_30 =>
                mnz r_30 <|
                some ((((100 : Int32) * r_28) / r_30), t_7)
            else
              some ((0 : Int32), t_7)
          else
            fX6_guest_L120 t_7 p1 mFU (0 : Int32) (0 : Int32)
    else
      mob (fX6_of t_7 p1 p2) fun r_38 =>
      some (r_38, t_7)
  else
    some ((0 : Int32), t_7)) fun K_6 =>
  if r_2 = true then
    mob (fX6_isIn p2 (0 : Int32) (8 : Int32)) fun r_40 =>
    if r_40 = true then
      K_6 (0 : Int32)
    else
      K_6 (2 : Int32)
  else
    K_6 (1 : Int32)
theorem kX6_guest {R : Room} {s : State} {args : Array Value} {own : String} {idx mc ms : Nat} {rm : Room} (hts : ∀ w ∈ lw_all, w.before args s = true) (hl : Cond.methodLink own idx yX6_guest ∈ lw_all) (hrc : rm.cells = mc) (hrs : rm.slots = ms) (hR : rm.frames + 1 ≤ R.frames ∧ 8 + (5 + 11) + rm.locals ≤ R.locals) : CallW R s args own RX6 idx yX6_guest cX6_guest 5 (some .int) (ws_ yX6_guest cX6_guest 5 (some .int)) rm mc ms 2 :=
  cwV 2 hts (lw_V hl q2129 q2130 q115 q2131) rfl hrc hrs (by decide +kernel) hR
set_option maxHeartbeats 4000000 in
set_option maxRecDepth 100000 in
theorem mtX6_guest (l : Launch) (D : va_G) (k : Nat → ClassId) (a : Nat → Nat) (Z : zZ) (hOK : zOK D zCl (zTys k) Z) {adK adV : Nat → Nat} (hStr : zStr Z adK adV) (t : Tw) (p1 : Int32) (p2 : Int32) (r : Int32) (tt : Tw) (hrun : fX6_guest t p1 p2 = some (r, tt)) :
    CtW l yX6_guest cX6_guest 5 (some .int) rX6_guest Z D zCl (cT k a t) [.ref (a 0), .int p1, .int p2] (fun r' w' => r' = (some (.int r)) ∧ w' = cT k a tt) 0 0 := by
  refine CtW.of (by decide) (Nat.le_of_ble_eq_true rfl) ?_
  intro p e s m args below meth c A hE hA hP hD hS hz ls hl
  obtain ⟨hx, hb, hr, hml, hown, hts, hlocks, hname⟩ := hE
  have hown : s.vm.findClass RX6 = some m.cls := hown
  have hK := hOK.1 _ _ _ hz
  have hl : lv_has ls 5 [(0, .ref (a 0)), (1, .int p1), (2, .int p2)] := hl
  unfold fX6_guest at hrun
  refine lv_aload_n hx hb dX6_guest_0 rfl (lv_at hl 0 rfl) ?_
  refine lv_aload_n hx hb dX6_guest_1 rfl (lv_at hl 0 rfl) ?_
  refine lv_iload_n hx hb dX6_guest_2 rfl (lv_at hl 1 rfl) ?_
  obtain ⟨r_2, hc_1, hrun⟩ := mob_s rfl hrun
  refine cRV (As := [.int p1]) (ci := 0) ⟨hx, hb, hml, hown, hts⟩ hOK hz hS hP (mtX6_isGuest l D k a Z hOK _ _ _ hc_1) (kX6_isGuest hts q2132 rfl rfl ⟨Nat.le_of_ble_eq_true rfl, Nat.le_of_ble_eq_true rfl⟩) 0 rfl rfl rfl hl.1 rfl (lv_room (Nat.le_of_ble_eq_true rfl)) ⟨Nat.le_of_ble_eq_true rfl, Nat.le_of_ble_eq_true rfl⟩ dX6_guest_3 ?_
  obtain ⟨K_6, hK_6, hrun⟩ := mjn_s hrun
  have hj_4 : ∀ (y_5 : Int32), ∀ (H : Heap) (locs : List Loc), va_P D zCl (cT k a t) H → va_D A (cT k a t) → va_S A s.heap H locs → ∀ ls : Array Slot, lv_has ls 5 [(0, .ref (a 0)), (1, .int p1), (2, .int p2)] → K_6 y_5 = some (r, tt) → W p l e rX6_guest s m args below meth c H locs 0 0 (MQ below (QWr (fun r' w' => r' = (some (.int r)) ∧ w' = cT k a tt) D zCl A) args s 0 0 A) (F0 m 28 ls [.int y_5, .ref (a 0)]) := by
    intro y_5 H locs hP hD hS ls hl hrun
    rw [hK_6] at hrun
    refine va_put (ci := 0) (v := .int y_5) (ty := tyX6 0) (C := RX6) (T := TX6) (N := 22) hx hb hts in_X6 tyX6 tyX6_ok nmX6 hown hK hP hD hS 0 rfl rfl 0 (by decide) (hts _ q1902) (fun _ h9 => h9) rfl (tyX6_ok 0 (by decide)) rfl rfl (Nat.le_of_ble_eq_true rfl) dX6_guest_28 (fun H locs hP hD hS => ?_)
    have hP : va_P D zCl (cT k a (tw_s_thrown t y_5)) H := hP
    have hD : va_D A (cT k a (tw_s_thrown t y_5)) := hD
    obtain ⟨t_7, et_7⟩ : ∃ z : Tw, z = (tw_s_thrown t y_5) := ⟨_, rfl⟩
    rw [← et_7] at hP hD
    have hrun := mlt_s hrun t_7 et_7
    refine lv_aload_n hx hb dX6_guest_31 rfl (lv_at hl 0 rfl) ?_
    refine va_get (ci := 0) (v := .int (tw_thrown t_7)) (C := RX6) (T := TX6) (N := 22) hx hb hts in_X6 hown hK hP 0 rfl rfl 0 (by decide) (hts _ q1902) (fun _ h9 => h9) rfl dX6_guest_32 ?_
    refine lv_if_le (tgt := 40) hx hb dX6_guest_35 (by decide) (fun c_8 => ?_) (fun c_8 => ?_)
    · have hrun := mif_p c_8 hrun
      refine lv_iload_n hx hb dX6_guest_40 rfl (lv_at hl 2 rfl) ?_
      refine lv_iconst (v := (5 : Int32)) hx hb dX6_guest_41 (by decide) ?_
      refine lv_icmp_ge (tgt := 52) hx hb dX6_guest_42 (by decide) (fun c_9 => ?_) (fun c_9 => ?_)
      · have hrun := mif_p c_9 hrun
        refine lv_iload_n hx hb dX6_guest_52 rfl (lv_at hl 2 rfl) ?_
        refine lv_iconst (v := (5 : Int32)) hx hb dX6_guest_53 (by decide) ?_
        refine lv_icmp_ne (tgt := 63) hx hb dX6_guest_54 (by decide) (fun c_10 => ?_) (fun c_10 => ?_)
        · have hrun := mif_n c_10 hrun
          refine lv_iload_n hx hb dX6_guest_63 rfl (lv_at hl 2 rfl) ?_
          refine lv_bipush (v := (6 : Int32)) hx hb dX6_guest_64 (by decide) ?_
          refine lv_icmp_ne (tgt := 75) hx hb dX6_guest_66 (by decide) (fun c_11 => ?_) (fun c_11 => ?_)
          · have hrun := mif_n c_11 hrun
            refine lv_iload_n hx hb dX6_guest_75 rfl (lv_at hl 2 rfl) ?_
            refine lv_bipush (v := (8 : Int32)) hx hb dX6_guest_76 (by decide) ?_
            refine lv_icmp_ne (tgt := 115) hx hb dX6_guest_78 (by decide) (fun c_12 => ?_) (fun c_12 => ?_)
            · have hrun := mif_n c_12 hrun
              refine lv_iconst (v := (0 : Int32)) hx hb dX6_guest_115 (by decide) ?_
              refine lv_istore_n (lv' := [(3, .int (0 : Int32)), (0, .ref (a 0)), (1, .int p1), (2, .int p2)]) hx hb dX6_guest_116 rfl hl (by decide) rfl (fun ls hl => ?_)
              refine lv_iconst (v := (0 : Int32)) hx hb dX6_guest_117 (by decide) ?_
              refine lv_istore (lv' := [(4, .int (0 : Int32)), (3, .int (0 : Int32)), (0, .ref (a 0)), (1, .int p1), (2, .int p2)]) hx hb dX6_guest_118 hl (by decide) rfl (fun ls hl => ?_)
              have hL_13 : ∀ n : Nat, ∀ (x3_14 : Int32) (x4_15 : Int32), ∀ (H : Heap) (locs : List Loc), va_P D zCl (cT k a t_7) H → va_D A (cT k a t_7) → va_S A s.heap H locs → ∀ ls : Array Slot, lv_has ls 5 [(0, .ref (a 0)), (1, .int p1), (3, .int x3_14), (4, .int x4_15)] → fX6_guest_L120 t_7 p1 n x3_14 x4_15 = some (r, tt) → W p l e rX6_guest s m args below meth c H locs 0 0 (MQ below (QWr (fun r' w' => r' = (some (.int r)) ∧ w' = cT k a tt) D zCl A) args s 0 0 A) (F0 m 120 ls []) := by
                intro n
                induction n with
                | zero =>
                  intro x3_14 x4_15 H locs hP hD hS ls hl hrun
                  exact nomatch hrun
                | succ n ih =>
                  intro x3_14 x4_15 H locs hP hD hS ls hl hrun
                  rw [fX6_guest_L120.eq_2] at hrun
                  refine lv_iload hx hb dX6_guest_120 (lv_at hl 3 rfl) ?_
                  refine lv_bipush (v := (8 : Int32)) hx hb dX6_guest_122 (by decide) ?_
                  refine lv_icmp_ge (tgt := 154) hx hb dX6_guest_124 (by decide) (fun c_16 => ?_) (fun c_16 => ?_)
                  · have hrun := mif_p c_16 hrun
                    refine lv_iload_n hx hb dX6_guest_154 rfl (lv_at hl 2 rfl) ?_
                    cases hrun
                    exact retW_i hx hb hr hlocks hP hD hS ⟨rfl, rfl⟩ dX6_guest_155
                  have hrun := mif_n c_16 hrun
                  refine lv_iload_n hx hb dX6_guest_127 rfl (lv_at hl 2 rfl) ?_
                  refine lv_aload_n hx hb dX6_guest_128 rfl (lv_at hl 0 rfl) ?_
                  refine lv_iload_n hx hb dX6_guest_129 rfl (lv_at hl 1 rfl) ?_
                  refine lv_iload hx hb dX6_guest_130 (lv_at hl 3 rfl) ?_
                  obtain ⟨r_18, hc_17, hrun⟩ := mob_s rfl hrun
                  refine cRV (As := [.int p1, .int x4_15]) (ci := 0) ⟨hx, hb, hml, hown, hts⟩ hOK hz hS hP (mtX6_sees l D k a Z hOK _ _ _ _ hc_17) (kX6_sees hts q2163 rfl rfl ⟨Nat.le_of_ble_eq_true rfl, Nat.le_of_ble_eq_true rfl⟩) 0 rfl rfl rfl hl.1 rfl (lv_room (Nat.le_of_ble_eq_true rfl)) ⟨Nat.le_of_ble_eq_true rfl, Nat.le_of_ble_eq_true rfl⟩ dX6_guest_132 ?_
                  refine lv_if_eq (tgt := 145) hx hb dX6_guest_135 (by decide) (fun c_19 => ?_) (fun c_19 => ?_)
                  · have hrun := mif_n (bz_z c_19) hrun
                    refine lv_iconst (v := (0 : Int32)) hx hb dX6_guest_145 (by decide) ?_
                    refine lv_ior hx hb dX6_guest_146 ?_
                    refine lv_istore_n (lv' := [(3, .int (x3_14 ||| (0 : Int32))), (0, .ref (a 0)), (1, .int p1), (4, .int x4_15)]) hx hb dX6_guest_147 rfl hl (by decide) rfl (fun ls hl => ?_)
                    refine lv_iinc (v := (x4_15 + (1 : Int32))) (lv' := [(4, .int (x4_15 + (1 : Int32))), (3, .int (x3_14 ||| (0 : Int32))), (0, .ref (a 0)), (1, .int p1)]) hx hb dX6_guest_148 hl (k := 3) rfl rfl (by decide) rfl (fun ls hl => ?_)
                    refine lv_goto (tgt := 120) hx hb dX6_guest_151 (by decide) ?_
                    exact ih (x3_14 ||| (0 : Int32)) (x4_15 + (1 : Int32)) _ _ hP hD hS ls (lv_sub hl [2, 3, 1, 0] rfl) hrun
                  have hrun := mif_p (bz_nz c_19) hrun
                  refine lv_iconst (v := (1 : Int32)) hx hb dX6_guest_138 (by decide) ?_
                  refine lv_iload hx hb dX6_guest_139 (lv_at hl 3 rfl) ?_
                  refine lv_ishl hx hb dX6_guest_141 ?_
                  refine lv_goto (tgt := 146) hx hb dX6_guest_142 (by decide) ?_
                  refine lv_ior hx hb dX6_guest_146 ?_
                  refine lv_istore_n (lv' := [(3, .int (x3_14 ||| ((1 : Int32) <<< (x4_15 &&& (31 : Int32))))), (0, .ref (a 0)), (1, .int p1), (4, .int x4_15)]) hx hb dX6_guest_147 rfl hl (by decide) rfl (fun ls hl => ?_)
                  refine lv_iinc (v := (x4_15 + (1 : Int32))) (lv' := [(4, .int (x4_15 + (1 : Int32))), (3, .int (x3_14 ||| ((1 : Int32) <<< (x4_15 &&& (31 : Int32))))), (0, .ref (a 0)), (1, .int p1)]) hx hb dX6_guest_148 hl (k := 3) rfl rfl (by decide) rfl (fun ls hl => ?_)
                  refine lv_goto (tgt := 120) hx hb dX6_guest_151 (by decide) ?_
                  exact ih (x3_14 ||| ((1 : Int32) <<< (x4_15 &&& (31 : Int32)))) (x4_15 + (1 : Int32)) _ _ hP hD hS ls (lv_sub hl [2, 3, 1, 0] rfl) hrun
              exact hL_13 mFU (0 : Int32) (0 : Int32) _ _ hP hD hS ls (lv_sub hl [2, 3, 1, 0] rfl) hrun
            have hrun := mif_p c_12 hrun
            refine lv_aload_n hx hb dX6_guest_81 rfl (lv_at hl 0 rfl) ?_
            refine lv_iload_n hx hb dX6_guest_82 rfl (lv_at hl 1 rfl) ?_
            obtain ⟨r_22, hc_21, hrun⟩ := mob_s rfl hrun
            refine cRV (As := [.int p1]) (ci := 0) ⟨hx, hb, hml, hown, hts⟩ hOK hz hS hP (mtX6_isHere l D k a Z hOK _ _ _ hc_21) (kX6_isHere hts q2155 rfl rfl ⟨Nat.le_of_ble_eq_true rfl, Nat.le_of_ble_eq_true rfl⟩) 0 rfl rfl rfl hl.1 rfl (lv_room (Nat.le_of_ble_eq_true rfl)) ⟨Nat.le_of_ble_eq_true rfl, Nat.le_of_ble_eq_true rfl⟩ dX6_guest_83 ?_
            refine lv_if_eq (tgt := 96) hx hb dX6_guest_86 (by decide) (fun c_23 => ?_) (fun c_23 => ?_)
            · have hrun := mif_n (bz_z c_23) hrun
              refine lv_iconst (v := (0 : Int32)) hx hb dX6_guest_96 (by decide) ?_
              refine lv_goto (tgt := 114) hx hb dX6_guest_97 (by decide) ?_
              cases hrun
              exact retW_i hx hb hr hlocks hP hD hS ⟨rfl, rfl⟩ dX6_guest_114
            have hrun := mif_p (bz_nz c_23) hrun
            refine lv_aload_n hx hb dX6_guest_89 rfl (lv_at hl 0 rfl) ?_
            obtain ⟨r_25, hc_24, hrun⟩ := mob_s rfl hrun
            refine cRV (As := []) (ci := 0) ⟨hx, hb, hml, hown, hts⟩ hOK hz hS hP (mtX6_doubts l D k a Z hOK _ _ hc_24) (kX6_doubts hts q2159 rfl rfl ⟨Nat.le_of_ble_eq_true rfl, Nat.le_of_ble_eq_true rfl⟩) 0 rfl rfl rfl hl.1 rfl (lv_room (Nat.le_of_ble_eq_true rfl)) ⟨Nat.le_of_ble_eq_true rfl, Nat.le_of_ble_eq_true rfl⟩ dX6_guest_90 ?_
            refine lv_if_ne (tgt := 100) hx hb dX6_guest_93 (by decide) (fun c_26 => ?_) (fun c_26 => ?_)
            · have hrun := mif_n c_26 hrun
              refine lv_bipush (v := (100 : Int32)) hx hb dX6_guest_100 (by decide) ?_
              refine lv_aload_n hx hb dX6_guest_102 rfl (lv_at hl 0 rfl) ?_
              refine lv_iload_n hx hb dX6_guest_103 rfl (lv_at hl 1 rfl) ?_
              refine lv_iconst (v := (2 : Int32)) hx hb dX6_guest_104 (by decide) ?_
              obtain ⟨r_28, hc_27, hrun⟩ := mob_s rfl hrun
              refine cRV (As := [.int p1, .int (2 : Int32)]) (ci := 0) ⟨hx, hb, hml, hown, hts⟩ hOK hz hS hP (mtX6_of l D k a Z hOK _ _ _ _ hc_27) (kX6_of hts q2136 rfl rfl ⟨Nat.le_of_ble_eq_true rfl, Nat.le_of_ble_eq_true rfl⟩) 0 rfl rfl rfl hl.1 rfl (lv_room (Nat.le_of_ble_eq_true rfl)) ⟨Nat.le_of_ble_eq_true rfl, Nat.le_of_ble_eq_true rfl⟩ dX6_guest_105 ?_
              refine lv_imul hx hb dX6_guest_108 ?_
              refine lv_aload_n hx hb dX6_guest_109 rfl (lv_at hl 0 rfl) ?_
              obtain ⟨r_30, hc_29, hrun⟩ := mob_s rfl hrun
              refine cRV (As := []) (ci := 0) ⟨hx, hb, hml, hown, hts⟩ hOK hz hS hP (mtX6_doubts l D k a Z hOK _ _ hc_29) (kX6_doubts hts q2159 rfl rfl ⟨Nat.le_of_ble_eq_true rfl, Nat.le_of_ble_eq_true rfl⟩) 0 rfl rfl rfl hl.1 rfl (lv_room (Nat.le_of_ble_eq_true rfl)) ⟨Nat.le_of_ble_eq_true rfl, Nat.le_of_ble_eq_true rfl⟩ dX6_guest_110 ?_
              obtain ⟨hn_31, hrun⟩ := mnz_s rfl hrun
              refine lv_idiv hx hb dX6_guest_113 hn_31 ?_
              cases hrun
              exact retW_i hx hb hr hlocks hP hD hS ⟨rfl, rfl⟩ dX6_guest_114
            have hrun := mif_p c_26 hrun
            refine lv_iconst (v := (0 : Int32)) hx hb dX6_guest_96 (by decide) ?_
            refine lv_goto (tgt := 114) hx hb dX6_guest_97 (by decide) ?_
            cases hrun
            exact retW_i hx hb hr hlocks hP hD hS ⟨rfl, rfl⟩ dX6_guest_114
          have hrun := mif_p c_11 hrun
          refine lv_aload_n hx hb dX6_guest_69 rfl (lv_at hl 0 rfl) ?_
          refine lv_iload_n hx hb dX6_guest_70 rfl (lv_at hl 1 rfl) ?_
          obtain ⟨r_34, t_33, hc_32, hrun⟩ := mo2_s rfl hrun
          refine cWV00 (As := [.int p1]) (ci := 0) ⟨hx, hb, hml, hown, hts⟩ hOK hz hS hA hP hD (mtX6_turnsBy l D k a Z hOK hStr _ _ _ _ hc_32) (kX6_turnsBy hts q2144 rfl rfl ⟨Nat.le_of_ble_eq_true rfl, Nat.le_of_ble_eq_true rfl⟩) 0 rfl rfl rfl hl.1 rfl (lv_room (Nat.le_of_ble_eq_true rfl)) ⟨Nat.le_of_ble_eq_true rfl, Nat.le_of_ble_eq_true rfl⟩ dX6_guest_71 (fun r_ w_ H locs hq hP hD hS => ?_)
          obtain ⟨rfl, rfl⟩ := hq
          cases hrun
          exact retW_i hx hb hr hlocks hP hD hS ⟨rfl, rfl⟩ dX6_guest_74
        have hrun := mif_p c_10 hrun
        refine lv_aload_n hx hb dX6_guest_57 rfl (lv_at hl 0 rfl) ?_
        refine lv_iload_n hx hb dX6_guest_58 rfl (lv_at hl 1 rfl) ?_
        obtain ⟨r_36, hc_35, hrun⟩ := mob_s rfl hrun
        refine cRV (As := [.int p1]) (ci := 0) ⟨hx, hb, hml, hown, hts⟩ hOK hz hS hP (mtX6_risk l D k a Z hOK _ _ _ hc_35) (kX6_risk hts q2140 rfl rfl ⟨Nat.le_of_ble_eq_true rfl, Nat.le_of_ble_eq_true rfl⟩) 0 rfl rfl rfl hl.1 rfl (lv_room (Nat.le_of_ble_eq_true rfl)) ⟨Nat.le_of_ble_eq_true rfl, Nat.le_of_ble_eq_true rfl⟩ dX6_guest_59 ?_
        cases hrun
        exact retW_i hx hb hr hlocks hP hD hS ⟨rfl, rfl⟩ dX6_guest_62
      have hrun := mif_n c_9 hrun
      refine lv_aload_n hx hb dX6_guest_45 rfl (lv_at hl 0 rfl) ?_
      refine lv_iload_n hx hb dX6_guest_46 rfl (lv_at hl 1 rfl) ?_
      refine lv_iload_n hx hb dX6_guest_47 rfl (lv_at hl 2 rfl) ?_
      obtain ⟨r_38, hc_37, hrun⟩ := mob_s rfl hrun
      refine cRV (As := [.int p1, .int p2]) (ci := 0) ⟨hx, hb, hml, hown, hts⟩ hOK hz hS hP (mtX6_of l D k a Z hOK _ _ _ _ hc_37) (kX6_of hts q2136 rfl rfl ⟨Nat.le_of_ble_eq_true rfl, Nat.le_of_ble_eq_true rfl⟩) 0 rfl rfl rfl hl.1 rfl (lv_room (Nat.le_of_ble_eq_true rfl)) ⟨Nat.le_of_ble_eq_true rfl, Nat.le_of_ble_eq_true rfl⟩ dX6_guest_48 ?_
      cases hrun
      exact retW_i hx hb hr hlocks hP hD hS ⟨rfl, rfl⟩ dX6_guest_51
    have hrun := mif_n c_8 hrun
    refine lv_iconst (v := (0 : Int32)) hx hb dX6_guest_38 (by decide) ?_
    cases hrun
    exact retW_i hx hb hr hlocks hP hD hS ⟨rfl, rfl⟩ dX6_guest_39
  refine lv_if_ne (tgt := 13) hx hb dX6_guest_6 (by decide) (fun c_3 => ?_) (fun c_3 => ?_)
  · have hrun := mif_p (bz_nz c_3) hrun
    refine lv_iload_n hx hb dX6_guest_13 rfl (lv_at hl 2 rfl) ?_
    refine lv_iconst (v := (0 : Int32)) hx hb dX6_guest_14 (by decide) ?_
    refine lv_bipush (v := (8 : Int32)) hx hb dX6_guest_15 (by decide) ?_
    obtain ⟨r_40, hc_39, hrun⟩ := mob_s rfl hrun
    refine cRS (ws := []) (As := [.int p2, .int (0 : Int32), .int (8 : Int32)]) ⟨hx, hb, hml, hown, hts⟩ hOK hz hS zP0 (mtX6_isIn l D Z hOK _ _ _ _ hc_39) (kX6_isIn hts q1981 rfl rfl ⟨Nat.le_of_ble_eq_true rfl, Nat.le_of_ble_eq_true rfl⟩) rfl hl.1 rfl (lv_room (Nat.le_of_ble_eq_true rfl)) ⟨Nat.le_of_ble_eq_true rfl, Nat.le_of_ble_eq_true rfl⟩ dX6_guest_17 ?_
    refine lv_if_ne (tgt := 27) hx hb dX6_guest_20 (by decide) (fun c_41 => ?_) (fun c_41 => ?_)
    · have hrun := mif_p (bz_nz c_41) hrun
      refine lv_iconst (v := (0 : Int32)) hx hb dX6_guest_27 (by decide) ?_
      exact hj_4 (0 : Int32) _ _ hP hD hS ls (lv_sub hl [0, 1, 2] rfl) hrun
    have hrun := mif_n (bz_z c_41) hrun
    refine lv_iconst (v := (2 : Int32)) hx hb dX6_guest_23 (by decide) ?_
    refine lv_goto (tgt := 28) hx hb dX6_guest_24 (by decide) ?_
    exact hj_4 (2 : Int32) _ _ hP hD hS ls (lv_sub hl [0, 1, 2] rfl) hrun
  have hrun := mif_n (bz_z c_3) hrun
  refine lv_iconst (v := (1 : Int32)) hx hb dX6_guest_9 (by decide) ?_
  refine lv_goto (tgt := 28) hx hb dX6_guest_10 (by decide) ?_
  exact hj_4 (1 : Int32) _ _ hP hD hS ls (lv_sub hl [0, 1, 2] rfl) hrun
def rX6_days : Room := { frames := 40, cells := 0, slots := 0, locals := 1080 }
noncomputable def fX6_days (t : Tw) (p1 : Int32) : Option (Int32 × Tw) :=
  mob (fX6_isIn p1 (1 : Int32) (60 : Int32)) fun r_2 =>
  mjn (fun (y_5 : Bool) =>
  mlt (tw_s_thrown t (bz y_5)) fun t_7 =>
  if (tw_thrown t_7) ≤ (0 : Int32) then
    mob (fX6_remembers t_7) fun t_10 =>
    mo2 (fX6_goes t_10 p1 true) fun r_13 t_12 =>
    some (r_13, t_12)
  else
    some ((0 : Int32), t_7)) fun K_6 =>
  if r_2 = true then
    K_6 false
  else
    K_6 true
theorem kX6_days {R : Room} {s : State} {args : Array Value} {own : String} {idx mc ms : Nat} {rm : Room} (hts : ∀ w ∈ lw_all, w.before args s = true) (hl : Cond.methodLink own idx yX6_days ∈ lw_all) (hrc : rm.cells = mc) (hrs : rm.slots = ms) (hR : rm.frames + 1 ≤ R.frames ∧ 8 + (2 + 11) + rm.locals ≤ R.locals) : CallW R s args own RX6 idx yX6_days cX6_days 2 (some .int) (ws_ yX6_days cX6_days 2 (some .int)) rm mc ms 1 :=
  cwV 1 hts (lw_V hl q2253 q2254 q115 q2255) rfl hrc hrs (by decide +kernel) hR
set_option maxHeartbeats 4000000 in
set_option maxRecDepth 100000 in
theorem mtX6_days (l : Launch) (D : va_G) (k : Nat → ClassId) (a : Nat → Nat) (Z : zZ) (hOK : zOK D zCl (zTys k) Z) {adK adV : Nat → Nat} (hStr : zStr Z adK adV) (t : Tw) (p1 : Int32) (r : Int32) (tt : Tw) (hrun : fX6_days t p1 = some (r, tt)) :
    CtW l yX6_days cX6_days 2 (some .int) rX6_days Z D zCl (cT k a t) [.ref (a 0), .int p1] (fun r' w' => r' = (some (.int r)) ∧ w' = cT k a tt) 0 0 := by
  refine CtW.of (by decide) (Nat.le_of_ble_eq_true rfl) ?_
  intro p e s m args below meth c A hE hA hP hD hS hz ls hl
  obtain ⟨hx, hb, hr, hml, hown, hts, hlocks, hname⟩ := hE
  have hown : s.vm.findClass RX6 = some m.cls := hown
  have hK := hOK.1 _ _ _ hz
  have hl : lv_has ls 2 [(0, .ref (a 0)), (1, .int p1)] := hl
  unfold fX6_days at hrun
  refine lv_aload_n hx hb dX6_days_0 rfl (lv_at hl 0 rfl) ?_
  refine lv_iload_n hx hb dX6_days_1 rfl (lv_at hl 1 rfl) ?_
  refine lv_iconst (v := (1 : Int32)) hx hb dX6_days_2 (by decide) ?_
  refine lv_bipush (v := (60 : Int32)) hx hb dX6_days_3 (by decide) ?_
  obtain ⟨r_2, hc_1, hrun⟩ := mob_s rfl hrun
  refine cRS (ws := []) (As := [.int p1, .int (1 : Int32), .int (60 : Int32)]) ⟨hx, hb, hml, hown, hts⟩ hOK hz hS zP0 (mtX6_isIn l D Z hOK _ _ _ _ hc_1) (kX6_isIn hts q1981 rfl rfl ⟨Nat.le_of_ble_eq_true rfl, Nat.le_of_ble_eq_true rfl⟩) rfl hl.1 rfl (lv_room (Nat.le_of_ble_eq_true rfl)) ⟨Nat.le_of_ble_eq_true rfl, Nat.le_of_ble_eq_true rfl⟩ dX6_days_5 ?_
  obtain ⟨K_6, hK_6, hrun⟩ := mjn_s hrun
  have hj_4 : ∀ (y_5 : Bool), ∀ (H : Heap) (locs : List Loc), va_P D zCl (cT k a t) H → va_D A (cT k a t) → va_S A s.heap H locs → ∀ ls : Array Slot, lv_has ls 2 [(0, .ref (a 0)), (1, .int p1)] → K_6 y_5 = some (r, tt) → W p l e rX6_days s m args below meth c H locs 0 0 (MQ below (QWr (fun r' w' => r' = (some (.int r)) ∧ w' = cT k a tt) D zCl A) args s 0 0 A) (F0 m 16 ls [.int (bz y_5), .ref (a 0)]) := by
    intro y_5 H locs hP hD hS ls hl hrun
    rw [hK_6] at hrun
    refine va_put (ci := 0) (v := .int (bz y_5)) (ty := tyX6 0) (C := RX6) (T := TX6) (N := 22) hx hb hts in_X6 tyX6 tyX6_ok nmX6 hown hK hP hD hS 0 rfl rfl 0 (by decide) (hts _ q1902) (fun _ h9 => h9) rfl (tyX6_ok 0 (by decide)) rfl rfl (Nat.le_of_ble_eq_true rfl) dX6_days_16 (fun H locs hP hD hS => ?_)
    have hP : va_P D zCl (cT k a (tw_s_thrown t (bz y_5))) H := hP
    have hD : va_D A (cT k a (tw_s_thrown t (bz y_5))) := hD
    obtain ⟨t_7, et_7⟩ : ∃ z : Tw, z = (tw_s_thrown t (bz y_5)) := ⟨_, rfl⟩
    rw [← et_7] at hP hD
    have hrun := mlt_s hrun t_7 et_7
    refine lv_aload_n hx hb dX6_days_19 rfl (lv_at hl 0 rfl) ?_
    refine va_get (ci := 0) (v := .int (tw_thrown t_7)) (C := RX6) (T := TX6) (N := 22) hx hb hts in_X6 hown hK hP 0 rfl rfl 0 (by decide) (hts _ q1902) (fun _ h9 => h9) rfl dX6_days_20 ?_
    refine lv_if_le (tgt := 28) hx hb dX6_days_23 (by decide) (fun c_8 => ?_) (fun c_8 => ?_)
    · have hrun := mif_p c_8 hrun
      refine lv_aload_n hx hb dX6_days_28 rfl (lv_at hl 0 rfl) ?_
      obtain ⟨t_10, hc_9, hrun⟩ := mob_s rfl hrun
      refine cWV00 (As := []) (ci := 0) ⟨hx, hb, hml, hown, hts⟩ hOK hz hS hA hP hD (mtX6_remembers l D k a Z hOK _ _ hc_9) (kX6_remembers hts q2213 rfl rfl ⟨Nat.le_of_ble_eq_true rfl, Nat.le_of_ble_eq_true rfl⟩) 0 rfl rfl rfl hl.1 rfl (lv_room (Nat.le_of_ble_eq_true rfl)) ⟨Nat.le_of_ble_eq_true rfl, Nat.le_of_ble_eq_true rfl⟩ dX6_days_29 (fun r_ w_ H locs hq hP hD hS => ?_)
      obtain ⟨rfl, rfl⟩ := hq
      refine lv_aload_n hx hb dX6_days_32 rfl (lv_at hl 0 rfl) ?_
      refine lv_iload_n hx hb dX6_days_33 rfl (lv_at hl 1 rfl) ?_
      refine lv_iconst (v := (1 : Int32)) hx hb dX6_days_34 (by decide) ?_
      obtain ⟨r_13, t_12, hc_11, hrun⟩ := mo2_s rfl hrun
      refine cWV00 (As := [.int p1, .int (bz true)]) (ci := 0) ⟨hx, hb, hml, hown, hts⟩ hOK hz hS hA hP hD (mtX6_goes l D k a Z hOK hStr _ _ _ _ _ hc_11) (kX6_goes hts q2256 rfl rfl ⟨Nat.le_of_ble_eq_true rfl, Nat.le_of_ble_eq_true rfl⟩) 0 rfl rfl rfl hl.1 rfl (lv_room (Nat.le_of_ble_eq_true rfl)) ⟨Nat.le_of_ble_eq_true rfl, Nat.le_of_ble_eq_true rfl⟩ dX6_days_35 (fun r_ w_ H locs hq hP hD hS => ?_)
      obtain ⟨rfl, rfl⟩ := hq
      cases hrun
      exact retW_i hx hb hr hlocks hP hD hS ⟨rfl, rfl⟩ dX6_days_38
    have hrun := mif_n c_8 hrun
    refine lv_iconst (v := (0 : Int32)) hx hb dX6_days_26 (by decide) ?_
    cases hrun
    exact retW_i hx hb hr hlocks hP hD hS ⟨rfl, rfl⟩ dX6_days_27
  refine lv_if_ne (tgt := 15) hx hb dX6_days_8 (by decide) (fun c_3 => ?_) (fun c_3 => ?_)
  · have hrun := mif_p (bz_nz c_3) hrun
    refine lv_iconst (v := (0 : Int32)) hx hb dX6_days_15 (by decide) ?_
    exact hj_4 false _ _ hP hD hS ls (lv_sub hl [0, 1] rfl) hrun
  have hrun := mif_n (bz_z c_3) hrun
  refine lv_iconst (v := (1 : Int32)) hx hb dX6_days_11 (by decide) ?_
  refine lv_goto (tgt := 16) hx hb dX6_days_12 (by decide) ?_
  exact hj_4 true _ _ hP hD hS ls (lv_sub hl [0, 1] rfl) hrun
