/-! walks: X6_has, X6_place, X6_isSign, X6_isHole, X6_from, X6_sets, X6_come, X6_key -/
def rX6_has : Room := { frames := 4, cells := 0, slots := 0, locals := 85 }
noncomputable def fX6_has_L55 (p1 : Nat) (K_9 : Option (Bool × Tw)) (t_2 : Tw) : Nat → Int32 → Option (Bool × Tw)
  | 0, _ => none
  | n + 1, x3_12 =>
    mst p1 <|
    if (nI (stL p1)) ≤ x3_12 then
      K_9
    else
      mob (fX6_letter t_2 ((tw_at_ t_2) + x3_12)) fun r_16 =>
      mst p1 <|
      mck x3_12 (stL p1) <|
      if r_16 = (stC p1 (Int32.toNatClampNeg x3_12)) then
        fX6_has_L55 p1 K_9 t_2 n (x3_12 + (1 : Int32))
      else
        some (false, t_2)
noncomputable def fX6_has_L9 (t_2 : Tw) (K_5 : Int32 → Option (Bool × Tw)) : Nat → Int32 → Option (Bool × Tw)
  | 0, _ => none
  | n + 1, x2_22 =>
    if (tw_end_ t_2) ≤ x2_22 then
      K_5 x2_22
    else
      mob (fX6_letter t_2 x2_22) fun r_25 =>
      mob (fX6_isIn r_25 (97 : Int32) (122 : Int32)) fun r_27 =>
      if r_27 = true then
        fX6_has_L9 t_2 K_5 n (x2_22 + (1 : Int32))
      else
        K_5 x2_22
noncomputable def fX6_has (t : Tw) (p1 : Nat) : Option (Bool × Tw) :=
  mob (fX6_skip t) fun t_2 =>
  mjn (fun (x2_4 : Int32) =>
  mst p1 <|
  if (x2_4 - (tw_at_ t_2)) = (nI (stL p1)) then
    mjn (mlt (tw_s_at_ t_2 x2_4) fun t_10 =>
    some (true, t_10)) fun K_9 =>
    fX6_has_L55 p1 K_9 t_2 mFU (0 : Int32)
  else
    some (false, t_2)) fun K_5 =>
  fX6_has_L9 t_2 K_5 mFU (tw_at_ t_2)
theorem kX6_has {R : Room} {s : State} {args : Array Value} {own : String} {idx mc ms : Nat} {rm : Room} (hts : ∀ w ∈ lw_all, w.before args s = true) (hl : Cond.methodLink own idx yX6_has ∈ lw_all) (hrc : rm.cells = mc) (hrs : rm.slots = ms) (hR : rm.frames + 1 ≤ R.frames ∧ 8 + (4 + 11) + rm.locals ≤ R.locals) : CallW R s args own RX6 idx yX6_has cX6_has 4 (some .boolean) (ws_ yX6_has cX6_has 4 (some .boolean)) rm mc ms 1 :=
  cwV 1 hts (lw_V hl q2019 qs56 q115 q2020) rfl hrc hrs (by decide +kernel) hR
set_option maxHeartbeats 4000000 in
set_option maxRecDepth 100000 in
theorem mtX6_has (l : Launch) (D : va_G) (k : Nat → ClassId) (a : Nat → Nat) (Z : zZ) (hOK : zOK D zCl (zTys k) Z) {adK adV : Nat → Nat} (hStr : zStr Z adK adV) (t : Tw) (p1 : Nat) (r : Bool) (tt : Tw) (hrun : fX6_has t p1 = some (r, tt)) :
    CtW l yX6_has cX6_has 4 (some .boolean) rX6_has Z D zCl (cT k a t) [.ref (a 0), .ref (adK p1)] (fun r' w' => r' = (some (.int (bz r))) ∧ w' = cT k a tt) 0 0 := by
  refine CtW.of (by decide) (Nat.le_of_ble_eq_true rfl) ?_
  intro p e s m args below meth c A hE hA hP hD hS hz ls hl
  obtain ⟨hx, hb, hr, hml, hown, hts, hlocks, hname⟩ := hE
  have hown : s.vm.findClass RX6 = some m.cls := hown
  have hK := hOK.1 _ _ _ hz
  have hl : lv_has ls 4 [(0, .ref (a 0)), (1, .ref (adK p1))] := hl
  unfold fX6_has at hrun
  refine lv_aload_n hx hb dX6_has_0 rfl (lv_at hl 0 rfl) ?_
  obtain ⟨t_2, hc_1, hrun⟩ := mob_s rfl hrun
  refine cWV00 (As := []) (ci := 0) ⟨hx, hb, hml, hown, hts⟩ hOK hz hS hA hP hD (mtX6_skip l D k a Z hOK _ _ hc_1) (kX6_skip hts q2000 rfl rfl ⟨Nat.le_of_ble_eq_true rfl, Nat.le_of_ble_eq_true rfl⟩) 0 rfl rfl rfl hl.1 rfl (lv_room (Nat.le_of_ble_eq_true rfl)) ⟨Nat.le_of_ble_eq_true rfl, Nat.le_of_ble_eq_true rfl⟩ dX6_has_1 (fun r_ w_ H locs hq hP hD hS => ?_)
  obtain ⟨rfl, rfl⟩ := hq
  refine lv_aload_n hx hb dX6_has_4 rfl (lv_at hl 0 rfl) ?_
  refine va_get (ci := 0) (v := .int (tw_at_ t_2)) (C := RX6) (T := TX6) (N := 22) hx hb hts in_X6 hown hK hP 0 rfl rfl 11 (by decide) (hts _ q1913) (fun _ h9 => h9) rfl dX6_has_5 ?_
  refine lv_istore_n (lv' := [(2, .int (tw_at_ t_2)), (0, .ref (a 0)), (1, .ref (adK p1))]) hx hb dX6_has_8 rfl hl (by decide) rfl (fun ls hl => ?_)
  obtain ⟨K_5, hK_5, hrun⟩ := mjn_s hrun
  have hj_3 : ∀ (x2_4 : Int32), ∀ (H : Heap) (locs : List Loc), va_P D zCl (cT k a t_2) H → va_D A (cT k a t_2) → va_S A s.heap H locs → ∀ ls : Array Slot, lv_has ls 4 [(0, .ref (a 0)), (1, .ref (adK p1)), (2, .int x2_4)] → K_5 x2_4 = some (r, tt) → W p l e rX6_has s m args below meth c H locs 0 0 (MQ below (QWr (fun r' w' => r' = (some (.int (bz r))) ∧ w' = cT k a tt) D zCl A) args s 0 0 A) (F0 m 38 ls []) := by
    intro x2_4 H locs hP hD hS ls hl hrun
    rw [hK_5] at hrun
    refine lv_iload_n hx hb dX6_has_38 rfl (lv_at hl 2 rfl) ?_
    refine lv_aload_n hx hb dX6_has_39 rfl (lv_at hl 0 rfl) ?_
    refine va_get (ci := 0) (v := .int (tw_at_ t_2)) (C := RX6) (T := TX6) (N := 22) hx hb hts in_X6 hown hK hP 0 rfl rfl 11 (by decide) (hts _ q1913) (fun _ h9 => h9) rfl dX6_has_40 ?_
    refine lv_isub hx hb dX6_has_43 ?_
    refine lv_aload_n hx hb dX6_has_44 rfl (lv_at hl 1 rfl) ?_
    obtain ⟨hi_6, hrun⟩ := mst_s rfl hrun
    refine cRVg (ws := []) (As := []) ⟨hx, hb, hml, hown, hts⟩ hOK hz hS zP0 (mtJ5_length l D Z hOK hStr _ hi_6) (kJ5_length hts q2021 rfl rfl ⟨Nat.le_of_ble_eq_true rfl, Nat.le_of_ble_eq_true rfl⟩) (vk_recv (hStr _ _ _ hz).1 hi_6 hS) rfl hl.1 rfl (lv_room (Nat.le_of_ble_eq_true rfl)) ⟨Nat.le_of_ble_eq_true rfl, Nat.le_of_ble_eq_true rfl⟩ dX6_has_45 ?_
    refine lv_icmp_eq (tgt := 53) hx hb dX6_has_48 (by decide) (fun c_7 => ?_) (fun c_7 => ?_)
    · have hrun := mif_p c_7 hrun
      refine lv_iconst (v := (0 : Int32)) hx hb dX6_has_53 (by decide) ?_
      refine lv_istore_n (lv' := [(3, .int (0 : Int32)), (0, .ref (a 0)), (1, .ref (adK p1)), (2, .int x2_4)]) hx hb dX6_has_54 rfl hl (by decide) rfl (fun ls hl => ?_)
      obtain ⟨K_9, hK_9, hrun⟩ := mjn_s hrun
      have hj_8 : ∀ (H : Heap) (locs : List Loc), va_P D zCl (cT k a t_2) H → va_D A (cT k a t_2) → va_S A s.heap H locs → ∀ ls : Array Slot, lv_has ls 4 [(0, .ref (a 0)), (2, .int x2_4)] → K_9 = some (r, tt) → W p l e rX6_has s m args below meth c H locs 0 0 (MQ below (QWr (fun r' w' => r' = (some (.int (bz r))) ∧ w' = cT k a tt) D zCl A) args s 0 0 A) (F0 m 89 ls []) := by
        intro H locs hP hD hS ls hl hrun
        rw [hK_9] at hrun
        refine lv_aload_n hx hb dX6_has_89 rfl (lv_at hl 0 rfl) ?_
        refine lv_iload_n hx hb dX6_has_90 rfl (lv_at hl 1 rfl) ?_
        refine va_put (ci := 0) (v := .int x2_4) (ty := tyX6 11) (C := RX6) (T := TX6) (N := 22) hx hb hts in_X6 tyX6 tyX6_ok nmX6 hown hK hP hD hS 0 rfl rfl 11 (by decide) (hts _ q1913) (fun _ h9 => h9) rfl (tyX6_ok 11 (by decide)) rfl rfl (Nat.le_of_ble_eq_true rfl) dX6_has_91 (fun H locs hP hD hS => ?_)
        have hP : va_P D zCl (cT k a (tw_s_at_ t_2 x2_4)) H := hP
        have hD : va_D A (cT k a (tw_s_at_ t_2 x2_4)) := hD
        obtain ⟨t_10, et_10⟩ : ∃ z : Tw, z = (tw_s_at_ t_2 x2_4) := ⟨_, rfl⟩
        rw [← et_10] at hP hD
        have hrun := mlt_s hrun t_10 et_10
        refine lv_iconst (v := (1 : Int32)) hx hb dX6_has_94 (by decide) ?_
        cases hrun
        exact retW_z (v := true) hx hb hr hlocks hP hD hS ⟨rfl, rfl⟩ dX6_has_95
      have hL_11 : ∀ n : Nat, ∀ (x3_12 : Int32), ∀ (H : Heap) (locs : List Loc), va_P D zCl (cT k a t_2) H → va_D A (cT k a t_2) → va_S A s.heap H locs → ∀ ls : Array Slot, lv_has ls 4 [(0, .ref (a 0)), (1, .ref (adK p1)), (2, .int x2_4), (3, .int x3_12)] → fX6_has_L55 p1 K_9 t_2 n x3_12 = some (r, tt) → W p l e rX6_has s m args below meth c H locs 0 0 (MQ below (QWr (fun r' w' => r' = (some (.int (bz r))) ∧ w' = cT k a tt) D zCl A) args s 0 0 A) (F0 m 55 ls []) := by
        intro n
        induction n with
        | zero =>
          intro x3_12 H locs hP hD hS ls hl hrun
          exact nomatch hrun
        | succ n ih =>
          intro x3_12 H locs hP hD hS ls hl hrun
          rw [fX6_has_L55.eq_2] at hrun
          refine lv_iload_n hx hb dX6_has_55 rfl (lv_at hl 3 rfl) ?_
          refine lv_aload_n hx hb dX6_has_56 rfl (lv_at hl 1 rfl) ?_
          obtain ⟨hi_13, hrun⟩ := mst_s rfl hrun
          refine cRVg (ws := []) (As := []) ⟨hx, hb, hml, hown, hts⟩ hOK hz hS zP0 (mtJ5_length l D Z hOK hStr _ hi_13) (kJ5_length hts q2021 rfl rfl ⟨Nat.le_of_ble_eq_true rfl, Nat.le_of_ble_eq_true rfl⟩) (vk_recv (hStr _ _ _ hz).1 hi_13 hS) rfl hl.1 rfl (lv_room (Nat.le_of_ble_eq_true rfl)) ⟨Nat.le_of_ble_eq_true rfl, Nat.le_of_ble_eq_true rfl⟩ dX6_has_57 ?_
          refine lv_icmp_ge (tgt := 89) hx hb dX6_has_60 (by decide) (fun c_14 => ?_) (fun c_14 => ?_)
          · have hrun := mif_p c_14 hrun
            exact hj_8 _ _ hP hD hS ls (lv_sub hl [0, 2] rfl) hrun
          have hrun := mif_n c_14 hrun
          refine lv_aload_n hx hb dX6_has_63 rfl (lv_at hl 0 rfl) ?_
          refine lv_aload_n hx hb dX6_has_64 rfl (lv_at hl 0 rfl) ?_
          refine va_get (ci := 0) (v := .int (tw_at_ t_2)) (C := RX6) (T := TX6) (N := 22) hx hb hts in_X6 hown hK hP 0 rfl rfl 11 (by decide) (hts _ q1913) (fun _ h9 => h9) rfl dX6_has_65 ?_
          refine lv_iload_n hx hb dX6_has_68 rfl (lv_at hl 3 rfl) ?_
          refine lv_iadd hx hb dX6_has_69 ?_
          obtain ⟨r_16, hc_15, hrun⟩ := mob_s rfl hrun
          refine cRV (As := [.int ((tw_at_ t_2) + x3_12)]) (ci := 0) ⟨hx, hb, hml, hown, hts⟩ hOK hz hS hP (mtX6_letter l D k a Z hOK _ _ _ hc_15) (kX6_letter hts q2004 rfl rfl ⟨Nat.le_of_ble_eq_true rfl, Nat.le_of_ble_eq_true rfl⟩) 0 rfl rfl rfl hl.1 rfl (lv_room (Nat.le_of_ble_eq_true rfl)) ⟨Nat.le_of_ble_eq_true rfl, Nat.le_of_ble_eq_true rfl⟩ dX6_has_70 ?_
          refine lv_aload_n hx hb dX6_has_73 rfl (lv_at hl 1 rfl) ?_
          refine lv_iload_n hx hb dX6_has_74 rfl (lv_at hl 3 rfl) ?_
          obtain ⟨hi_17, hrun⟩ := mst_s rfl hrun
          obtain ⟨hb_18, hrun⟩ := mck_s rfl hrun
          refine cRVg (ws := []) (As := [.int x3_12]) ⟨hx, hb, hml, hown, hts⟩ hOK hz hS zP0 (mtJ5_charAt l D Z hOK hStr _ hi_17 _ hb_18) (kJ5_charAt hts q2022 rfl rfl ⟨Nat.le_of_ble_eq_true rfl, Nat.le_of_ble_eq_true rfl⟩) (vk_recv (hStr _ _ _ hz).1 hi_17 hS) rfl hl.1 rfl (lv_room (Nat.le_of_ble_eq_true rfl)) ⟨Nat.le_of_ble_eq_true rfl, Nat.le_of_ble_eq_true rfl⟩ dX6_has_75 ?_
          refine lv_icmp_eq (tgt := 83) hx hb dX6_has_78 (by decide) (fun c_19 => ?_) (fun c_19 => ?_)
          · have hrun := mif_p c_19 hrun
            refine lv_iinc (v := (x3_12 + (1 : Int32))) (lv' := [(3, .int (x3_12 + (1 : Int32))), (0, .ref (a 0)), (1, .ref (adK p1)), (2, .int x2_4)]) hx hb dX6_has_83 hl (k := 3) rfl rfl (by decide) rfl (fun ls hl => ?_)
            refine lv_goto (tgt := 55) hx hb dX6_has_86 (by decide) ?_
            exact ih (x3_12 + (1 : Int32)) _ _ hP hD hS ls (lv_sub hl [1, 2, 3, 0] rfl) hrun
          have hrun := mif_n c_19 hrun
          refine lv_iconst (v := (0 : Int32)) hx hb dX6_has_81 (by decide) ?_
          cases hrun
          exact retW_z (v := false) hx hb hr hlocks hP hD hS ⟨rfl, rfl⟩ dX6_has_82
      exact hL_11 mFU (0 : Int32) _ _ hP hD hS ls (lv_sub hl [1, 2, 3, 0] rfl) hrun
    have hrun := mif_n c_7 hrun
    refine lv_iconst (v := (0 : Int32)) hx hb dX6_has_51 (by decide) ?_
    cases hrun
    exact retW_z (v := false) hx hb hr hlocks hP hD hS ⟨rfl, rfl⟩ dX6_has_52
  have hL_21 : ∀ n : Nat, ∀ (x2_22 : Int32), ∀ (H : Heap) (locs : List Loc), va_P D zCl (cT k a t_2) H → va_D A (cT k a t_2) → va_S A s.heap H locs → ∀ ls : Array Slot, lv_has ls 4 [(0, .ref (a 0)), (1, .ref (adK p1)), (2, .int x2_22)] → fX6_has_L9 t_2 K_5 n x2_22 = some (r, tt) → W p l e rX6_has s m args below meth c H locs 0 0 (MQ below (QWr (fun r' w' => r' = (some (.int (bz r))) ∧ w' = cT k a tt) D zCl A) args s 0 0 A) (F0 m 9 ls []) := by
    intro n
    induction n with
    | zero =>
      intro x2_22 H locs hP hD hS ls hl hrun
      exact nomatch hrun
    | succ n ih =>
      intro x2_22 H locs hP hD hS ls hl hrun
      rw [fX6_has_L9.eq_2] at hrun
      refine lv_iload_n hx hb dX6_has_9 rfl (lv_at hl 2 rfl) ?_
      refine lv_aload_n hx hb dX6_has_10 rfl (lv_at hl 0 rfl) ?_
      refine va_get (ci := 0) (v := .int (tw_end_ t_2)) (C := RX6) (T := TX6) (N := 22) hx hb hts in_X6 hown hK hP 0 rfl rfl 10 (by decide) (hts _ q1912) (fun _ h9 => h9) rfl dX6_has_11 ?_
      refine lv_icmp_ge (tgt := 38) hx hb dX6_has_14 (by decide) (fun c_23 => ?_) (fun c_23 => ?_)
      · have hrun := mif_p c_23 hrun
        exact hj_3 x2_22 _ _ hP hD hS ls (lv_sub hl [0, 1, 2] rfl) hrun
      have hrun := mif_n c_23 hrun
      refine lv_aload_n hx hb dX6_has_17 rfl (lv_at hl 0 rfl) ?_
      refine lv_iload_n hx hb dX6_has_18 rfl (lv_at hl 2 rfl) ?_
      obtain ⟨r_25, hc_24, hrun⟩ := mob_s rfl hrun
      refine cRV (As := [.int x2_22]) (ci := 0) ⟨hx, hb, hml, hown, hts⟩ hOK hz hS hP (mtX6_letter l D k a Z hOK _ _ _ hc_24) (kX6_letter hts q2004 rfl rfl ⟨Nat.le_of_ble_eq_true rfl, Nat.le_of_ble_eq_true rfl⟩) 0 rfl rfl rfl hl.1 rfl (lv_room (Nat.le_of_ble_eq_true rfl)) ⟨Nat.le_of_ble_eq_true rfl, Nat.le_of_ble_eq_true rfl⟩ dX6_has_19 ?_
      refine lv_bipush (v := (97 : Int32)) hx hb dX6_has_22 (by decide) ?_
      refine lv_bipush (v := (122 : Int32)) hx hb dX6_has_24 (by decide) ?_
      obtain ⟨r_27, hc_26, hrun⟩ := mob_s rfl hrun
      refine cRS (ws := []) (As := [.int r_25, .int (97 : Int32), .int (122 : Int32)]) ⟨hx, hb, hml, hown, hts⟩ hOK hz hS zP0 (mtX6_isIn l D Z hOK _ _ _ _ hc_26) (kX6_isIn hts q1981 rfl rfl ⟨Nat.le_of_ble_eq_true rfl, Nat.le_of_ble_eq_true rfl⟩) rfl hl.1 rfl (lv_room (Nat.le_of_ble_eq_true rfl)) ⟨Nat.le_of_ble_eq_true rfl, Nat.le_of_ble_eq_true rfl⟩ dX6_has_26 ?_
      refine lv_if_eq (tgt := 38) hx hb dX6_has_29 (by decide) (fun c_28 => ?_) (fun c_28 => ?_)
      · have hrun := mif_n (bz_z c_28) hrun
        exact hj_3 x2_22 _ _ hP hD hS ls (lv_sub hl [0, 1, 2] rfl) hrun
      have hrun := mif_p (bz_nz c_28) hrun
      refine lv_iinc (v := (x2_22 + (1 : Int32))) (lv' := [(2, .int (x2_22 + (1 : Int32))), (0, .ref (a 0)), (1, .ref (adK p1))]) hx hb dX6_has_32 hl (k := 2) rfl rfl (by decide) rfl (fun ls hl => ?_)
      refine lv_goto (tgt := 9) hx hb dX6_has_35 (by decide) ?_
      exact ih (x2_22 + (1 : Int32)) _ _ hP hD hS ls (lv_sub hl [1, 2, 0] rfl) hrun
  exact hL_21 mFU (tw_at_ t_2) _ _ hP hD hS ls (lv_sub hl [1, 2, 0] rfl) hrun
def rX6_place : Room := { frames := 2, cells := 0, slots := 0, locals := 41 }
noncomputable def fX6_place (t : Tw) : Option (Int32 × Tw) :=
  mob (fX6_skip t) fun t_2 =>
  some ((tw_at_ t_2), t_2)
theorem kX6_place {R : Room} {s : State} {args : Array Value} {own : String} {idx mc ms : Nat} {rm : Room} (hts : ∀ w ∈ lw_all, w.before args s = true) (hl : Cond.methodLink own idx yX6_place ∈ lw_all) (hrc : rm.cells = mc) (hrs : rm.slots = ms) (hR : rm.frames + 1 ≤ R.frames ∧ 8 + (1 + 11) + rm.locals ≤ R.locals) : CallW R s args own RX6 idx yX6_place cX6_place 1 (some .int) (ws_ yX6_place cX6_place 1 (some .int)) rm mc ms 0 :=
  cwV 0 hts (lw_V hl q2040 qs58 q115 q2041) rfl hrc hrs (by decide +kernel) hR
set_option maxHeartbeats 4000000 in
set_option maxRecDepth 100000 in
theorem mtX6_place (l : Launch) (D : va_G) (k : Nat → ClassId) (a : Nat → Nat) (Z : zZ) (hOK : zOK D zCl (zTys k) Z) (t : Tw) (r : Int32) (tt : Tw) (hrun : fX6_place t = some (r, tt)) :
    CtW l yX6_place cX6_place 1 (some .int) rX6_place Z D zCl (cT k a t) [.ref (a 0)] (fun r' w' => r' = (some (.int r)) ∧ w' = cT k a tt) 0 0 := by
  refine CtW.of (by decide) (Nat.le_of_ble_eq_true rfl) ?_
  intro p e s m args below meth c A hE hA hP hD hS hz ls hl
  obtain ⟨hx, hb, hr, hml, hown, hts, hlocks, hname⟩ := hE
  have hown : s.vm.findClass RX6 = some m.cls := hown
  have hK := hOK.1 _ _ _ hz
  have hl : lv_has ls 1 [(0, .ref (a 0))] := hl
  unfold fX6_place at hrun
  refine lv_aload_n hx hb dX6_place_0 rfl (lv_at hl 0 rfl) ?_
  obtain ⟨t_2, hc_1, hrun⟩ := mob_s rfl hrun
  refine cWV00 (As := []) (ci := 0) ⟨hx, hb, hml, hown, hts⟩ hOK hz hS hA hP hD (mtX6_skip l D k a Z hOK _ _ hc_1) (kX6_skip hts q2000 rfl rfl ⟨Nat.le_of_ble_eq_true rfl, Nat.le_of_ble_eq_true rfl⟩) 0 rfl rfl rfl hl.1 rfl (lv_room (Nat.le_of_ble_eq_true rfl)) ⟨Nat.le_of_ble_eq_true rfl, Nat.le_of_ble_eq_true rfl⟩ dX6_place_1 (fun r_ w_ H locs hq hP hD hS => ?_)
  obtain ⟨rfl, rfl⟩ := hq
  refine lv_aload_n hx hb dX6_place_4 rfl (lv_at hl 0 rfl) ?_
  refine va_get (ci := 0) (v := .int (tw_at_ t_2)) (C := RX6) (T := TX6) (N := 22) hx hb hts in_X6 hown hK hP 0 rfl rfl 11 (by decide) (hts _ q1913) (fun _ h9 => h9) rfl dX6_place_5 ?_
  cases hrun
  exact retW_i hx hb hr hlocks hP hD hS ⟨rfl, rfl⟩ dX6_place_8
def rX6_isSign : Room := { frames := 2, cells := 0, slots := 0, locals := 41 }
noncomputable def fX6_isSign (t : Tw) (p1 : Int32) : Option (Bool × Tw) :=
  mob (fX6_skip t) fun t_2 =>
  if (tw_end_ t_2) ≤ (tw_at_ t_2) then
    some (false, t_2)
  else
    mob (fX6_letter t_2 (tw_at_ t_2)) fun r_5 =>
    if r_5 = p1 then
      some (true, t_2)
    else
      some (false, t_2)
theorem kX6_isSign {R : Room} {s : State} {args : Array Value} {own : String} {idx mc ms : Nat} {rm : Room} (hts : ∀ w ∈ lw_all, w.before args s = true) (hl : Cond.methodLink own idx yX6_isSign ∈ lw_all) (hrc : rm.cells = mc) (hrs : rm.slots = ms) (hR : rm.frames + 1 ≤ R.frames ∧ 8 + (2 + 11) + rm.locals ≤ R.locals) : CallW R s args own RX6 idx yX6_isSign cX6_isSign 2 (some .boolean) (ws_ yX6_isSign cX6_isSign 2 (some .boolean)) rm mc ms 1 :=
  cwV 1 hts (lw_V hl q2058 qs62 q115 q2059) rfl hrc hrs (by decide +kernel) hR
set_option maxHeartbeats 4000000 in
set_option maxRecDepth 100000 in
theorem mtX6_isSign (l : Launch) (D : va_G) (k : Nat → ClassId) (a : Nat → Nat) (Z : zZ) (hOK : zOK D zCl (zTys k) Z) (t : Tw) (p1 : Int32) (r : Bool) (tt : Tw) (hrun : fX6_isSign t p1 = some (r, tt)) :
    CtW l yX6_isSign cX6_isSign 2 (some .boolean) rX6_isSign Z D zCl (cT k a t) [.ref (a 0), .int p1] (fun r' w' => r' = (some (.int (bz r))) ∧ w' = cT k a tt) 0 0 := by
  refine CtW.of (by decide) (Nat.le_of_ble_eq_true rfl) ?_
  intro p e s m args below meth c A hE hA hP hD hS hz ls hl
  obtain ⟨hx, hb, hr, hml, hown, hts, hlocks, hname⟩ := hE
  have hown : s.vm.findClass RX6 = some m.cls := hown
  have hK := hOK.1 _ _ _ hz
  have hl : lv_has ls 2 [(0, .ref (a 0)), (1, .int p1)] := hl
  unfold fX6_isSign at hrun
  refine lv_aload_n hx hb dX6_isSign_0 rfl (lv_at hl 0 rfl) ?_
  obtain ⟨t_2, hc_1, hrun⟩ := mob_s rfl hrun
  refine cWV00 (As := []) (ci := 0) ⟨hx, hb, hml, hown, hts⟩ hOK hz hS hA hP hD (mtX6_skip l D k a Z hOK _ _ hc_1) (kX6_skip hts q2000 rfl rfl ⟨Nat.le_of_ble_eq_true rfl, Nat.le_of_ble_eq_true rfl⟩) 0 rfl rfl rfl hl.1 rfl (lv_room (Nat.le_of_ble_eq_true rfl)) ⟨Nat.le_of_ble_eq_true rfl, Nat.le_of_ble_eq_true rfl⟩ dX6_isSign_1 (fun r_ w_ H locs hq hP hD hS => ?_)
  obtain ⟨rfl, rfl⟩ := hq
  refine lv_aload_n hx hb dX6_isSign_4 rfl (lv_at hl 0 rfl) ?_
  refine va_get (ci := 0) (v := .int (tw_at_ t_2)) (C := RX6) (T := TX6) (N := 22) hx hb hts in_X6 hown hK hP 0 rfl rfl 11 (by decide) (hts _ q1913) (fun _ h9 => h9) rfl dX6_isSign_5 ?_
  refine lv_aload_n hx hb dX6_isSign_8 rfl (lv_at hl 0 rfl) ?_
  refine va_get (ci := 0) (v := .int (tw_end_ t_2)) (C := RX6) (T := TX6) (N := 22) hx hb hts in_X6 hown hK hP 0 rfl rfl 10 (by decide) (hts _ q1912) (fun _ h9 => h9) rfl dX6_isSign_9 ?_
  refine lv_icmp_ge (tgt := 31) hx hb dX6_isSign_12 (by decide) (fun c_3 => ?_) (fun c_3 => ?_)
  · have hrun := mif_p c_3 hrun
    refine lv_iconst (v := (0 : Int32)) hx hb dX6_isSign_31 (by decide) ?_
    cases hrun
    exact retW_z (v := false) hx hb hr hlocks hP hD hS ⟨rfl, rfl⟩ dX6_isSign_32
  have hrun := mif_n c_3 hrun
  refine lv_aload_n hx hb dX6_isSign_15 rfl (lv_at hl 0 rfl) ?_
  refine lv_aload_n hx hb dX6_isSign_16 rfl (lv_at hl 0 rfl) ?_
  refine va_get (ci := 0) (v := .int (tw_at_ t_2)) (C := RX6) (T := TX6) (N := 22) hx hb hts in_X6 hown hK hP 0 rfl rfl 11 (by decide) (hts _ q1913) (fun _ h9 => h9) rfl dX6_isSign_17 ?_
  obtain ⟨r_5, hc_4, hrun⟩ := mob_s rfl hrun
  refine cRV (As := [.int (tw_at_ t_2)]) (ci := 0) ⟨hx, hb, hml, hown, hts⟩ hOK hz hS hP (mtX6_letter l D k a Z hOK _ _ _ hc_4) (kX6_letter hts q2004 rfl rfl ⟨Nat.le_of_ble_eq_true rfl, Nat.le_of_ble_eq_true rfl⟩) 0 rfl rfl rfl hl.1 rfl (lv_room (Nat.le_of_ble_eq_true rfl)) ⟨Nat.le_of_ble_eq_true rfl, Nat.le_of_ble_eq_true rfl⟩ dX6_isSign_20 ?_
  refine lv_iload_n hx hb dX6_isSign_23 rfl (lv_at hl 1 rfl) ?_
  refine lv_icmp_ne (tgt := 31) hx hb dX6_isSign_24 (by decide) (fun c_6 => ?_) (fun c_6 => ?_)
  · have hrun := mif_n c_6 hrun
    refine lv_iconst (v := (0 : Int32)) hx hb dX6_isSign_31 (by decide) ?_
    cases hrun
    exact retW_z (v := false) hx hb hr hlocks hP hD hS ⟨rfl, rfl⟩ dX6_isSign_32
  have hrun := mif_p c_6 hrun
  refine lv_iconst (v := (1 : Int32)) hx hb dX6_isSign_27 (by decide) ?_
  refine lv_goto (tgt := 32) hx hb dX6_isSign_28 (by decide) ?_
  cases hrun
  exact retW_z (v := true) hx hb hr hlocks hP hD hS ⟨rfl, rfl⟩ dX6_isSign_32
def rX6_isHole : Room := { frames := 1, cells := 0, slots := 0, locals := 21 }
noncomputable def fX6_isHole (t : Tw) (p1 : Int32) (p2 : Int32) : Option (Bool) :=
  mck ((16 : Int32) + p1) 704 <|
  mob (fX6_isOf ((tw_m t) (Int32.toNatClampNeg ((16 : Int32) + p1))) p2) fun r_3 =>
  some r_3
theorem kX6_isHole {R : Room} {s : State} {args : Array Value} {own : String} {idx mc ms : Nat} {rm : Room} (hts : ∀ w ∈ lw_all, w.before args s = true) (hl : Cond.methodLink own idx yX6_isHole ∈ lw_all) (hrc : rm.cells = mc) (hrs : rm.slots = ms) (hR : rm.frames + 1 ≤ R.frames ∧ 8 + (3 + 11) + rm.locals ≤ R.locals) : CallW R s args own RX6 idx yX6_isHole cX6_isHole 3 (some .boolean) (ws_ yX6_isHole cX6_isHole 3 (some .boolean)) rm mc ms 2 :=
  cwV 2 hts (lw_V hl q2173 qs82 q115 q2174) rfl hrc hrs (by decide +kernel) hR
set_option maxHeartbeats 4000000 in
set_option maxRecDepth 100000 in
theorem mtX6_isHole (l : Launch) (D : va_G) (k : Nat → ClassId) (a : Nat → Nat) (Z : zZ) (hOK : zOK D zCl (zTys k) Z) (t : Tw) (p1 : Int32) (p2 : Int32) (r : Bool) (hrun : fX6_isHole t p1 p2 = some r) :
    CtR l yX6_isHole cX6_isHole 3 (some .boolean) rX6_isHole Z D zCl (cT k a t) [.ref (a 0), .int p1, .int p2] (some (.int (bz r))) := by
  refine CtR.of (by decide) (Nat.le_of_ble_eq_true rfl) ?_
  intro p e s m args below meth c hE hP hz ls hl
  obtain ⟨hx, hb, hr, hml, hown, hts, hlocks, hname⟩ := hE
  have hown : s.vm.findClass RX6 = some m.cls := hown
  have hK := hOK.1 _ _ _ hz
  have hl : lv_has ls 3 [(0, .ref (a 0)), (1, .int p1), (2, .int p2)] := hl
  unfold fX6_isHole at hrun
  refine lv_aload_n hx hb dX6_isHole_0 rfl (lv_at hl 0 rfl) ?_
  refine va_get (ci := 0) (v := .ref (a 1)) (C := RX6) (T := TX6) (N := 22) hx hb hts in_X6 hown hK hP 0 rfl rfl 1 (by decide) (hts _ q1903) (fun _ h9 => h9) rfl dX6_isHole_1 ?_
  refine lv_bipush (v := (16 : Int32)) hx hb dX6_isHole_4 (by decide) ?_
  refine lv_iload_n hx hb dX6_isHole_6 rfl (lv_at hl 1 rfl) ?_
  refine lv_iadd hx hb dX6_isHole_7 ?_
  obtain ⟨hb_1, hrun⟩ := mck_s rfl hrun
  refine va_iald hx hb hK hP 1 0 rfl rfl hb_1 dX6_isHole_8 ?_
  refine lv_iload_n hx hb dX6_isHole_9 rfl (lv_at hl 2 rfl) ?_
  obtain ⟨r_3, hc_2, hrun⟩ := mob_s rfl hrun
  refine cRS (ws := []) (As := [.int ((tw_m t) (Int32.toNatClampNeg ((16 : Int32) + p1))), .int p2]) ⟨hx, hb, hml, hown, hts⟩ hOK hz va_S.rf zP0 (mtX6_isOf l D Z hOK _ _ _ hc_2) (kX6_isOf hts q2175 rfl rfl ⟨Nat.le_of_ble_eq_true rfl, Nat.le_of_ble_eq_true rfl⟩) rfl hl.1 rfl (lv_room (Nat.le_of_ble_eq_true rfl)) ⟨Nat.le_of_ble_eq_true rfl, Nat.le_of_ble_eq_true rfl⟩ dX6_isHole_10 ?_
  cases hrun
  exact retR_z hx hb hr hlocks rfl dX6_isHole_13
def rX6_from : Room := { frames := 2, cells := 0, slots := 0, locals := 43 }
noncomputable def fX6_from_L4 (t : Tw) (p1 : Int32) : Nat → Int32 → Int32 → Option (Int32)
  | 0, _, _ => none
  | n + 1, x2_2, x3_3 =>
    if (8 : Int32) ≤ x3_3 then
      some x2_2
    else
      mob (fX6_isHole t x3_3 p1) fun r_6 =>
      if r_6 = true then
        fX6_from_L4 t p1 n (x2_2 ||| ((1 : Int32) <<< (x3_3 &&& (31 : Int32)))) (x3_3 + (1 : Int32))
      else
        fX6_from_L4 t p1 n (x2_2 ||| (0 : Int32)) (x3_3 + (1 : Int32))
noncomputable def fX6_from (t : Tw) (p1 : Int32) : Option (Int32) :=
  fX6_from_L4 t p1 mFU (0 : Int32) (0 : Int32)
theorem kX6_from {R : Room} {s : State} {args : Array Value} {own : String} {idx mc ms : Nat} {rm : Room} (hts : ∀ w ∈ lw_all, w.before args s = true) (hl : Cond.methodLink own idx yX6_from ∈ lw_all) (hrc : rm.cells = mc) (hrs : rm.slots = ms) (hR : rm.frames + 1 ≤ R.frames ∧ 8 + (4 + 11) + rm.locals ≤ R.locals) : CallW R s args own RX6 idx yX6_from cX6_from 4 (some .int) (ws_ yX6_from cX6_from 4 (some .int)) rm mc ms 1 :=
  cwV 1 hts (lw_V hl q2187 qs83 q115 q2188) rfl hrc hrs (by decide +kernel) hR
set_option maxHeartbeats 4000000 in
set_option maxRecDepth 100000 in
theorem mtX6_from (l : Launch) (D : va_G) (k : Nat → ClassId) (a : Nat → Nat) (Z : zZ) (hOK : zOK D zCl (zTys k) Z) (t : Tw) (p1 : Int32) (r : Int32) (hrun : fX6_from t p1 = some r) :
    CtR l yX6_from cX6_from 4 (some .int) rX6_from Z D zCl (cT k a t) [.ref (a 0), .int p1] (some (.int r)) := by
  refine CtR.of (by decide) (Nat.le_of_ble_eq_true rfl) ?_
  intro p e s m args below meth c hE hP hz ls hl
  obtain ⟨hx, hb, hr, hml, hown, hts, hlocks, hname⟩ := hE
  have hown : s.vm.findClass RX6 = some m.cls := hown
  have hK := hOK.1 _ _ _ hz
  have hl : lv_has ls 4 [(0, .ref (a 0)), (1, .int p1)] := hl
  unfold fX6_from at hrun
  refine lv_iconst (v := (0 : Int32)) hx hb dX6_from_0 (by decide) ?_
  refine lv_istore_n (lv' := [(2, .int (0 : Int32)), (0, .ref (a 0)), (1, .int p1)]) hx hb dX6_from_1 rfl hl (by decide) rfl (fun ls hl => ?_)
  refine lv_iconst (v := (0 : Int32)) hx hb dX6_from_2 (by decide) ?_
  refine lv_istore_n (lv' := [(3, .int (0 : Int32)), (2, .int (0 : Int32)), (0, .ref (a 0)), (1, .int p1)]) hx hb dX6_from_3 rfl hl (by decide) rfl (fun ls hl => ?_)
  have hL_1 : ∀ n : Nat, ∀ (x2_2 : Int32) (x3_3 : Int32), ∀ ls : Array Slot, lv_has ls 4 [(0, .ref (a 0)), (1, .int p1), (2, .int x2_2), (3, .int x3_3)] → fX6_from_L4 t p1 n x2_2 x3_3 = some r → W p l e rX6_from s m args below meth c s.heap [] 0 0 (MQ below (QRr (some (.int r))) args s 0 0 (fun _ => False)) (F0 m 4 ls []) := by
    intro n
    induction n with
    | zero =>
      intro x2_2 x3_3 ls hl hrun
      exact nomatch hrun
    | succ n ih =>
      intro x2_2 x3_3 ls hl hrun
      rw [fX6_from_L4.eq_2] at hrun
      refine lv_iload_n hx hb dX6_from_4 rfl (lv_at hl 3 rfl) ?_
      refine lv_bipush (v := (8 : Int32)) hx hb dX6_from_5 (by decide) ?_
      refine lv_icmp_ge (tgt := 35) hx hb dX6_from_7 (by decide) (fun c_4 => ?_) (fun c_4 => ?_)
      · have hrun := mif_p c_4 hrun
        refine lv_iload_n hx hb dX6_from_35 rfl (lv_at hl 2 rfl) ?_
        cases hrun
        exact retR_i hx hb hr hlocks rfl dX6_from_36
      have hrun := mif_n c_4 hrun
      refine lv_iload_n hx hb dX6_from_10 rfl (lv_at hl 2 rfl) ?_
      refine lv_aload_n hx hb dX6_from_11 rfl (lv_at hl 0 rfl) ?_
      refine lv_iload_n hx hb dX6_from_12 rfl (lv_at hl 3 rfl) ?_
      refine lv_iload_n hx hb dX6_from_13 rfl (lv_at hl 1 rfl) ?_
      obtain ⟨r_6, hc_5, hrun⟩ := mob_s rfl hrun
      refine cRV (As := [.int x3_3, .int p1]) (ci := 0) ⟨hx, hb, hml, hown, hts⟩ hOK hz va_S.rf hP (mtX6_isHole l D k a Z hOK _ _ _ _ hc_5) (kX6_isHole hts q2171 rfl rfl ⟨Nat.le_of_ble_eq_true rfl, Nat.le_of_ble_eq_true rfl⟩) 0 rfl rfl rfl hl.1 rfl (lv_room (Nat.le_of_ble_eq_true rfl)) ⟨Nat.le_of_ble_eq_true rfl, Nat.le_of_ble_eq_true rfl⟩ dX6_from_14 ?_
      refine lv_if_eq (tgt := 26) hx hb dX6_from_17 (by decide) (fun c_7 => ?_) (fun c_7 => ?_)
      · have hrun := mif_n (bz_z c_7) hrun
        refine lv_iconst (v := (0 : Int32)) hx hb dX6_from_26 (by decide) ?_
        refine lv_ior hx hb dX6_from_27 ?_
        refine lv_istore_n (lv' := [(2, .int (x2_2 ||| (0 : Int32))), (0, .ref (a 0)), (1, .int p1), (3, .int x3_3)]) hx hb dX6_from_28 rfl hl (by decide) rfl (fun ls hl => ?_)
        refine lv_iinc (v := (x3_3 + (1 : Int32))) (lv' := [(3, .int (x3_3 + (1 : Int32))), (2, .int (x2_2 ||| (0 : Int32))), (0, .ref (a 0)), (1, .int p1)]) hx hb dX6_from_29 hl (k := 3) rfl rfl (by decide) rfl (fun ls hl => ?_)
        refine lv_goto (tgt := 4) hx hb dX6_from_32 (by decide) ?_
        exact ih (x2_2 ||| (0 : Int32)) (x3_3 + (1 : Int32)) ls (lv_sub hl [2, 3, 1, 0] rfl) hrun
      have hrun := mif_p (bz_nz c_7) hrun
      refine lv_iconst (v := (1 : Int32)) hx hb dX6_from_20 (by decide) ?_
      refine lv_iload_n hx hb dX6_from_21 rfl (lv_at hl 3 rfl) ?_
      refine lv_ishl hx hb dX6_from_22 ?_
      refine lv_goto (tgt := 27) hx hb dX6_from_23 (by decide) ?_
      refine lv_ior hx hb dX6_from_27 ?_
      refine lv_istore_n (lv' := [(2, .int (x2_2 ||| ((1 : Int32) <<< (x3_3 &&& (31 : Int32))))), (0, .ref (a 0)), (1, .int p1), (3, .int x3_3)]) hx hb dX6_from_28 rfl hl (by decide) rfl (fun ls hl => ?_)
      refine lv_iinc (v := (x3_3 + (1 : Int32))) (lv' := [(3, .int (x3_3 + (1 : Int32))), (2, .int (x2_2 ||| ((1 : Int32) <<< (x3_3 &&& (31 : Int32))))), (0, .ref (a 0)), (1, .int p1)]) hx hb dX6_from_29 hl (k := 3) rfl rfl (by decide) rfl (fun ls hl => ?_)
      refine lv_goto (tgt := 4) hx hb dX6_from_32 (by decide) ?_
      exact ih (x2_2 ||| ((1 : Int32) <<< (x3_3 &&& (31 : Int32)))) (x3_3 + (1 : Int32)) ls (lv_sub hl [2, 3, 1, 0] rfl) hrun
  exact hL_1 mFU (0 : Int32) (0 : Int32) ls (lv_sub hl [2, 3, 1, 0] rfl) hrun
def rX6_sets : Room := { frames := 1, cells := 0, slots := 0, locals := 21 }
noncomputable def fX6_sets (t : Tw) (p1 : Int32) (p2 : Int32) : Option (Int32 × Tw) :=
  mob (fX6_remembers t) fun t_2 =>
  mck p1 704 <|
  mck p1 704 <|
  mlt (tw_s_m t_2 (upd (tw_m t_2) (Int32.toNatClampNeg p1) p2)) fun t_5 =>
  some (((tw_m t_2) (Int32.toNatClampNeg p1)), t_5)
theorem kX6_sets {R : Room} {s : State} {args : Array Value} {own : String} {idx mc ms : Nat} {rm : Room} (hts : ∀ w ∈ lw_all, w.before args s = true) (hl : Cond.methodLink own idx yX6_sets ∈ lw_all) (hrc : rm.cells = mc) (hrs : rm.slots = ms) (hR : rm.frames + 1 ≤ R.frames ∧ 8 + (4 + 11) + rm.locals ≤ R.locals) : CallW R s args own RX6 idx yX6_sets cX6_sets 4 (some .int) (ws_ yX6_sets cX6_sets 4 (some .int)) rm mc ms 2 :=
  cwV 2 hts (lw_V hl q2211 qs86 q115 q2212) rfl hrc hrs (by decide +kernel) hR
set_option maxHeartbeats 4000000 in
set_option maxRecDepth 100000 in
theorem mtX6_sets (l : Launch) (D : va_G) (k : Nat → ClassId) (a : Nat → Nat) (Z : zZ) (hOK : zOK D zCl (zTys k) Z) (t : Tw) (p1 : Int32) (p2 : Int32) (r : Int32) (tt : Tw) (hrun : fX6_sets t p1 p2 = some (r, tt)) :
    CtW l yX6_sets cX6_sets 4 (some .int) rX6_sets Z D zCl (cT k a t) [.ref (a 0), .int p1, .int p2] (fun r' w' => r' = (some (.int r)) ∧ w' = cT k a tt) 0 0 := by
  refine CtW.of (by decide) (Nat.le_of_ble_eq_true rfl) ?_
  intro p e s m args below meth c A hE hA hP hD hS hz ls hl
  obtain ⟨hx, hb, hr, hml, hown, hts, hlocks, hname⟩ := hE
  have hown : s.vm.findClass RX6 = some m.cls := hown
  have hK := hOK.1 _ _ _ hz
  have hl : lv_has ls 4 [(0, .ref (a 0)), (1, .int p1), (2, .int p2)] := hl
  unfold fX6_sets at hrun
  refine lv_aload_n hx hb dX6_sets_0 rfl (lv_at hl 0 rfl) ?_
  obtain ⟨t_2, hc_1, hrun⟩ := mob_s rfl hrun
  refine cWV00 (As := []) (ci := 0) ⟨hx, hb, hml, hown, hts⟩ hOK hz hS hA hP hD (mtX6_remembers l D k a Z hOK _ _ hc_1) (kX6_remembers hts q2213 rfl rfl ⟨Nat.le_of_ble_eq_true rfl, Nat.le_of_ble_eq_true rfl⟩) 0 rfl rfl rfl hl.1 rfl (lv_room (Nat.le_of_ble_eq_true rfl)) ⟨Nat.le_of_ble_eq_true rfl, Nat.le_of_ble_eq_true rfl⟩ dX6_sets_1 (fun r_ w_ H locs hq hP hD hS => ?_)
  obtain ⟨rfl, rfl⟩ := hq
  refine lv_aload_n hx hb dX6_sets_4 rfl (lv_at hl 0 rfl) ?_
  refine va_get (ci := 0) (v := .ref (a 1)) (C := RX6) (T := TX6) (N := 22) hx hb hts in_X6 hown hK hP 0 rfl rfl 1 (by decide) (hts _ q1903) (fun _ h9 => h9) rfl dX6_sets_5 ?_
  refine lv_iload_n hx hb dX6_sets_8 rfl (lv_at hl 1 rfl) ?_
  obtain ⟨hb_3, hrun⟩ := mck_s rfl hrun
  refine va_iald hx hb hK hP 1 0 rfl rfl hb_3 dX6_sets_9 ?_
  refine lv_istore_n (lv' := [(3, .int ((tw_m t_2) (Int32.toNatClampNeg p1))), (0, .ref (a 0)), (1, .int p1), (2, .int p2)]) hx hb dX6_sets_10 rfl hl (by decide) rfl (fun ls hl => ?_)
  refine lv_aload_n hx hb dX6_sets_11 rfl (lv_at hl 1 rfl) ?_
  refine va_get (ci := 0) (v := .ref (a 1)) (C := RX6) (T := TX6) (N := 22) hx hb hts in_X6 hown hK hP 0 rfl rfl 1 (by decide) (hts _ q1903) (fun _ h9 => h9) rfl dX6_sets_12 ?_
  refine lv_iload_n hx hb dX6_sets_15 rfl (lv_at hl 2 rfl) ?_
  refine lv_iload_n hx hb dX6_sets_16 rfl (lv_at hl 3 rfl) ?_
  obtain ⟨hb_4, hrun⟩ := mck_s rfl hrun
  refine va_iast hx hb hK hP hD hS 1 0 rfl rfl hb_4 dX6_sets_17 (fun H locs hP hD hS => ?_)
  have hP : va_P D zCl (cT k a (tw_s_m t_2 (upd (tw_m t_2) (Int32.toNatClampNeg p1) p2))) H := hP
  have hD : va_D A (cT k a (tw_s_m t_2 (upd (tw_m t_2) (Int32.toNatClampNeg p1) p2))) := hD
  obtain ⟨t_5, et_5⟩ : ∃ z : Tw, z = (tw_s_m t_2 (upd (tw_m t_2) (Int32.toNatClampNeg p1) p2)) := ⟨_, rfl⟩
  rw [← et_5] at hP hD
  have hrun := mlt_s hrun t_5 et_5
  refine lv_iload_n hx hb dX6_sets_18 rfl (lv_at hl 0 rfl) ?_
  cases hrun
  exact retW_i hx hb hr hlocks hP hD hS ⟨rfl, rfl⟩ dX6_sets_19
def rX6_come : Room := { frames := 2, cells := 0, slots := 0, locals := 44 }
noncomputable def fX6_come (t : Tw) (p1 : Int32) (p2 : Bool) : Option (Bool × Tw) :=
  mob (fX6_isGuest t p1) fun r_2 =>
  mjn (fun (y_5 : Bool) =>
  mlt (tw_s_thrown t (bz y_5)) fun t_7 =>
  if (tw_thrown t_7) = (0 : Int32) then
    mjn (fun (y_11 : Bool) =>
    mo2 (fX6_sets t_7 (((24 : Int32) + ((5 : Int32) * p1)) + (4 : Int32)) (bz y_11)) fun r_15 t_14 =>
    mjn (fun (y_18 : Bool) =>
    if r_15 = (bz y_18) then
      some (false, t_14)
    else
      some (true, t_14)) fun K_19 =>
    if p2 = true then
      K_19 true
    else
      K_19 false) fun K_12 =>
    if p2 = true then
      K_12 true
    else
      K_12 false
  else
    some (false, t_7)) fun K_6 =>
  if r_2 = true then
    K_6 false
  else
    K_6 true
theorem kX6_come {R : Room} {s : State} {args : Array Value} {own : String} {idx mc ms : Nat} {rm : Room} (hts : ∀ w ∈ lw_all, w.before args s = true) (hl : Cond.methodLink own idx yX6_come ∈ lw_all) (hrc : rm.cells = mc) (hrs : rm.slots = ms) (hR : rm.frames + 1 ≤ R.frames ∧ 8 + (3 + 11) + rm.locals ≤ R.locals) : CallW R s args own RX6 idx yX6_come cX6_come 3 (some .boolean) (ws_ yX6_come cX6_come 3 (some .boolean)) rm mc ms 2 :=
  cwV 2 hts (lw_V hl q2218 q2219 q115 q2220) rfl hrc hrs (by decide +kernel) hR
set_option maxHeartbeats 4000000 in
set_option maxRecDepth 100000 in
theorem mtX6_come (l : Launch) (D : va_G) (k : Nat → ClassId) (a : Nat → Nat) (Z : zZ) (hOK : zOK D zCl (zTys k) Z) (t : Tw) (p1 : Int32) (p2 : Bool) (r : Bool) (tt : Tw) (hrun : fX6_come t p1 p2 = some (r, tt)) :
    CtW l yX6_come cX6_come 3 (some .boolean) rX6_come Z D zCl (cT k a t) [.ref (a 0), .int p1, .int (bz p2)] (fun r' w' => r' = (some (.int (bz r))) ∧ w' = cT k a tt) 0 0 := by
  refine CtW.of (by decide) (Nat.le_of_ble_eq_true rfl) ?_
  intro p e s m args below meth c A hE hA hP hD hS hz ls hl
  obtain ⟨hx, hb, hr, hml, hown, hts, hlocks, hname⟩ := hE
  have hown : s.vm.findClass RX6 = some m.cls := hown
  have hK := hOK.1 _ _ _ hz
  have hl : lv_has ls 3 [(0, .ref (a 0)), (1, .int p1), (2, .int (bz p2))] := hl
  unfold fX6_come at hrun
  refine lv_aload_n hx hb dX6_come_0 rfl (lv_at hl 0 rfl) ?_
  refine lv_aload_n hx hb dX6_come_1 rfl (lv_at hl 0 rfl) ?_
  refine lv_iload_n hx hb dX6_come_2 rfl (lv_at hl 1 rfl) ?_
  obtain ⟨r_2, hc_1, hrun⟩ := mob_s rfl hrun
  refine cRV (As := [.int p1]) (ci := 0) ⟨hx, hb, hml, hown, hts⟩ hOK hz hS hP (mtX6_isGuest l D k a Z hOK _ _ _ hc_1) (kX6_isGuest hts q2132 rfl rfl ⟨Nat.le_of_ble_eq_true rfl, Nat.le_of_ble_eq_true rfl⟩) 0 rfl rfl rfl hl.1 rfl (lv_room (Nat.le_of_ble_eq_true rfl)) ⟨Nat.le_of_ble_eq_true rfl, Nat.le_of_ble_eq_true rfl⟩ dX6_come_3 ?_
  obtain ⟨K_6, hK_6, hrun⟩ := mjn_s hrun
  have hj_4 : ∀ (y_5 : Bool), ∀ (H : Heap) (locs : List Loc), va_P D zCl (cT k a t) H → va_D A (cT k a t) → va_S A s.heap H locs → ∀ ls : Array Slot, lv_has ls 3 [(0, .ref (a 0)), (1, .int p1), (2, .int (bz p2))] → K_6 y_5 = some (r, tt) → W p l e rX6_come s m args below meth c H locs 0 0 (MQ below (QWr (fun r' w' => r' = (some (.int (bz r))) ∧ w' = cT k a tt) D zCl A) args s 0 0 A) (F0 m 14 ls [.int (bz y_5), .ref (a 0)]) := by
    intro y_5 H locs hP hD hS ls hl hrun
    rw [hK_6] at hrun
    refine va_put (ci := 0) (v := .int (bz y_5)) (ty := tyX6 0) (C := RX6) (T := TX6) (N := 22) hx hb hts in_X6 tyX6 tyX6_ok nmX6 hown hK hP hD hS 0 rfl rfl 0 (by decide) (hts _ q1902) (fun _ h9 => h9) rfl (tyX6_ok 0 (by decide)) rfl rfl (Nat.le_of_ble_eq_true rfl) dX6_come_14 (fun H locs hP hD hS => ?_)
    have hP : va_P D zCl (cT k a (tw_s_thrown t (bz y_5))) H := hP
    have hD : va_D A (cT k a (tw_s_thrown t (bz y_5))) := hD
    obtain ⟨t_7, et_7⟩ : ∃ z : Tw, z = (tw_s_thrown t (bz y_5)) := ⟨_, rfl⟩
    rw [← et_7] at hP hD
    have hrun := mlt_s hrun t_7 et_7
    refine lv_aload_n hx hb dX6_come_17 rfl (lv_at hl 0 rfl) ?_
    refine va_get (ci := 0) (v := .int (tw_thrown t_7)) (C := RX6) (T := TX6) (N := 22) hx hb hts in_X6 hown hK hP 0 rfl rfl 0 (by decide) (hts _ q1902) (fun _ h9 => h9) rfl dX6_come_18 ?_
    refine lv_if_ne (tgt := 61) hx hb dX6_come_21 (by decide) (fun c_8 => ?_) (fun c_8 => ?_)
    · have hrun := mif_n c_8 hrun
      refine lv_iconst (v := (0 : Int32)) hx hb dX6_come_61 (by decide) ?_
      cases hrun
      exact retW_z (v := false) hx hb hr hlocks hP hD hS ⟨rfl, rfl⟩ dX6_come_62
    have hrun := mif_p c_8 hrun
    refine lv_aload_n hx hb dX6_come_24 rfl (lv_at hl 0 rfl) ?_
    refine lv_bipush (v := (24 : Int32)) hx hb dX6_come_25 (by decide) ?_
    refine lv_iconst (v := (5 : Int32)) hx hb dX6_come_27 (by decide) ?_
    refine lv_iload_n hx hb dX6_come_28 rfl (lv_at hl 1 rfl) ?_
    refine lv_imul hx hb dX6_come_29 ?_
    refine lv_iadd hx hb dX6_come_30 ?_
    refine lv_iconst (v := (4 : Int32)) hx hb dX6_come_31 (by decide) ?_
    refine lv_iadd hx hb dX6_come_32 ?_
    refine lv_iload_n hx hb dX6_come_33 rfl (lv_at hl 2 rfl) ?_
    obtain ⟨K_12, hK_12, hrun⟩ := mjn_s hrun
    have hj_10 : ∀ (y_11 : Bool), ∀ (H : Heap) (locs : List Loc), va_P D zCl (cT k a t_7) H → va_D A (cT k a t_7) → va_S A s.heap H locs → ∀ ls : Array Slot, lv_has ls 3 [(2, .int (bz p2))] → K_12 y_11 = some (r, tt) → W p l e rX6_come s m args below meth c H locs 0 0 (MQ below (QWr (fun r' w' => r' = (some (.int (bz r))) ∧ w' = cT k a tt) D zCl A) args s 0 0 A) (F0 m 42 ls [.int (bz y_11), .int (((24 : Int32) + ((5 : Int32) * p1)) + (4 : Int32)), .ref (a 0)]) := by
      intro y_11 H locs hP hD hS ls hl hrun
      rw [hK_12] at hrun
      obtain ⟨r_15, t_14, hc_13, hrun⟩ := mo2_s rfl hrun
      refine cWV00 (As := [.int (((24 : Int32) + ((5 : Int32) * p1)) + (4 : Int32)), .int (bz y_11)]) (ci := 0) ⟨hx, hb, hml, hown, hts⟩ hOK hz hS hA hP hD (mtX6_sets l D k a Z hOK _ _ _ _ _ hc_13) (kX6_sets hts q2209 rfl rfl ⟨Nat.le_of_ble_eq_true rfl, Nat.le_of_ble_eq_true rfl⟩) 0 rfl rfl rfl hl.1 rfl (lv_room (Nat.le_of_ble_eq_true rfl)) ⟨Nat.le_of_ble_eq_true rfl, Nat.le_of_ble_eq_true rfl⟩ dX6_come_42 (fun r_ w_ H locs hq hP hD hS => ?_)
      obtain ⟨rfl, rfl⟩ := hq
      refine lv_iload_n hx hb dX6_come_45 rfl (lv_at hl 0 rfl) ?_
      obtain ⟨K_19, hK_19, hrun⟩ := mjn_s hrun
      have hj_17 : ∀ (y_18 : Bool), ∀ (H : Heap) (locs : List Loc), va_P D zCl (cT k a t_14) H → va_D A (cT k a t_14) → va_S A s.heap H locs → ∀ ls : Array Slot, lv_has ls 3 [] → K_19 y_18 = some (r, tt) → W p l e rX6_come s m args below meth c H locs 0 0 (MQ below (QWr (fun r' w' => r' = (some (.int (bz r))) ∧ w' = cT k a tt) D zCl A) args s 0 0 A) (F0 m 54 ls [.int (bz y_18), .int r_15]) := by
        intro y_18 H locs hP hD hS ls hl hrun
        rw [hK_19] at hrun
        refine lv_icmp_eq (tgt := 61) hx hb dX6_come_54 (by decide) (fun c_20 => ?_) (fun c_20 => ?_)
        · have hrun := mif_p c_20 hrun
          refine lv_iconst (v := (0 : Int32)) hx hb dX6_come_61 (by decide) ?_
          cases hrun
          exact retW_z (v := false) hx hb hr hlocks hP hD hS ⟨rfl, rfl⟩ dX6_come_62
        have hrun := mif_n c_20 hrun
        refine lv_iconst (v := (1 : Int32)) hx hb dX6_come_57 (by decide) ?_
        refine lv_goto (tgt := 62) hx hb dX6_come_58 (by decide) ?_
        cases hrun
        exact retW_z (v := true) hx hb hr hlocks hP hD hS ⟨rfl, rfl⟩ dX6_come_62
      refine lv_if_eq (tgt := 53) hx hb dX6_come_46 (by decide) (fun c_16 => ?_) (fun c_16 => ?_)
      · have hrun := mif_n (bz_z c_16) hrun
        refine lv_iconst (v := (0 : Int32)) hx hb dX6_come_53 (by decide) ?_
        exact hj_17 false _ _ hP hD hS ls (lv_sub hl [] rfl) hrun
      have hrun := mif_p (bz_nz c_16) hrun
      refine lv_iconst (v := (1 : Int32)) hx hb dX6_come_49 (by decide) ?_
      refine lv_goto (tgt := 54) hx hb dX6_come_50 (by decide) ?_
      exact hj_17 true _ _ hP hD hS ls (lv_sub hl [] rfl) hrun
    refine lv_if_eq (tgt := 41) hx hb dX6_come_34 (by decide) (fun c_9 => ?_) (fun c_9 => ?_)
    · have hrun := mif_n (bz_z c_9) hrun
      refine lv_iconst (v := (0 : Int32)) hx hb dX6_come_41 (by decide) ?_
      exact hj_10 false _ _ hP hD hS ls (lv_sub hl [2] rfl) hrun
    have hrun := mif_p (bz_nz c_9) hrun
    refine lv_iconst (v := (1 : Int32)) hx hb dX6_come_37 (by decide) ?_
    refine lv_goto (tgt := 42) hx hb dX6_come_38 (by decide) ?_
    exact hj_10 true _ _ hP hD hS ls (lv_sub hl [2] rfl) hrun
  refine lv_if_ne (tgt := 13) hx hb dX6_come_6 (by decide) (fun c_3 => ?_) (fun c_3 => ?_)
  · have hrun := mif_p (bz_nz c_3) hrun
    refine lv_iconst (v := (0 : Int32)) hx hb dX6_come_13 (by decide) ?_
    exact hj_4 false _ _ hP hD hS ls (lv_sub hl [0, 1, 2] rfl) hrun
  have hrun := mif_n (bz_z c_3) hrun
  refine lv_iconst (v := (1 : Int32)) hx hb dX6_come_9 (by decide) ?_
  refine lv_goto (tgt := 14) hx hb dX6_come_10 (by decide) ?_
  exact hj_4 true _ _ hP hD hS ls (lv_sub hl [0, 1, 2] rfl) hrun
def rX6_key : Room := { frames := 2, cells := 0, slots := 0, locals := 44 }
noncomputable def fX6_key (t : Tw) (p1 : Int32) (p2 : Bool) : Option (Bool × Tw) :=
  mob (fX6_isGuest t p1) fun r_2 =>
  mjn (fun (y_5 : Bool) =>
  mlt (tw_s_thrown t (bz y_5)) fun t_7 =>
  if (tw_thrown t_7) = (0 : Int32) then
    mjn (fun (y_11 : Bool) =>
    mo2 (fX6_sets t_7 (((24 : Int32) + ((5 : Int32) * p1)) + (3 : Int32)) (bz y_11)) fun r_15 t_14 =>
    mjn (fun (y_18 : Bool) =>
    if r_15 = (bz y_18) then
      some (false, t_14)
    else
      some (true, t_14)) fun K_19 =>
    if p2 = true then
      K_19 true
    else
      K_19 false) fun K_12 =>
    if p2 = true then
      K_12 true
    else
      K_12 false
  else
    some (false, t_7)) fun K_6 =>
  if r_2 = true then
    K_6 false
  else
    K_6 true
theorem kX6_key {R : Room} {s : State} {args : Array Value} {own : String} {idx mc ms : Nat} {rm : Room} (hts : ∀ w ∈ lw_all, w.before args s = true) (hl : Cond.methodLink own idx yX6_key ∈ lw_all) (hrc : rm.cells = mc) (hrs : rm.slots = ms) (hR : rm.frames + 1 ≤ R.frames ∧ 8 + (3 + 11) + rm.locals ≤ R.locals) : CallW R s args own RX6 idx yX6_key cX6_key 3 (some .boolean) (ws_ yX6_key cX6_key 3 (some .boolean)) rm mc ms 2 :=
  cwV 2 hts (lw_V hl q2222 q2223 q115 q2224) rfl hrc hrs (by decide +kernel) hR
set_option maxHeartbeats 4000000 in
set_option maxRecDepth 100000 in
theorem mtX6_key (l : Launch) (D : va_G) (k : Nat → ClassId) (a : Nat → Nat) (Z : zZ) (hOK : zOK D zCl (zTys k) Z) (t : Tw) (p1 : Int32) (p2 : Bool) (r : Bool) (tt : Tw) (hrun : fX6_key t p1 p2 = some (r, tt)) :
    CtW l yX6_key cX6_key 3 (some .boolean) rX6_key Z D zCl (cT k a t) [.ref (a 0), .int p1, .int (bz p2)] (fun r' w' => r' = (some (.int (bz r))) ∧ w' = cT k a tt) 0 0 := by
  refine CtW.of (by decide) (Nat.le_of_ble_eq_true rfl) ?_
  intro p e s m args below meth c A hE hA hP hD hS hz ls hl
  obtain ⟨hx, hb, hr, hml, hown, hts, hlocks, hname⟩ := hE
  have hown : s.vm.findClass RX6 = some m.cls := hown
  have hK := hOK.1 _ _ _ hz
  have hl : lv_has ls 3 [(0, .ref (a 0)), (1, .int p1), (2, .int (bz p2))] := hl
  unfold fX6_key at hrun
  refine lv_aload_n hx hb dX6_key_0 rfl (lv_at hl 0 rfl) ?_
  refine lv_aload_n hx hb dX6_key_1 rfl (lv_at hl 0 rfl) ?_
  refine lv_iload_n hx hb dX6_key_2 rfl (lv_at hl 1 rfl) ?_
  obtain ⟨r_2, hc_1, hrun⟩ := mob_s rfl hrun
  refine cRV (As := [.int p1]) (ci := 0) ⟨hx, hb, hml, hown, hts⟩ hOK hz hS hP (mtX6_isGuest l D k a Z hOK _ _ _ hc_1) (kX6_isGuest hts q2132 rfl rfl ⟨Nat.le_of_ble_eq_true rfl, Nat.le_of_ble_eq_true rfl⟩) 0 rfl rfl rfl hl.1 rfl (lv_room (Nat.le_of_ble_eq_true rfl)) ⟨Nat.le_of_ble_eq_true rfl, Nat.le_of_ble_eq_true rfl⟩ dX6_key_3 ?_
  obtain ⟨K_6, hK_6, hrun⟩ := mjn_s hrun
  have hj_4 : ∀ (y_5 : Bool), ∀ (H : Heap) (locs : List Loc), va_P D zCl (cT k a t) H → va_D A (cT k a t) → va_S A s.heap H locs → ∀ ls : Array Slot, lv_has ls 3 [(0, .ref (a 0)), (1, .int p1), (2, .int (bz p2))] → K_6 y_5 = some (r, tt) → W p l e rX6_key s m args below meth c H locs 0 0 (MQ below (QWr (fun r' w' => r' = (some (.int (bz r))) ∧ w' = cT k a tt) D zCl A) args s 0 0 A) (F0 m 14 ls [.int (bz y_5), .ref (a 0)]) := by
    intro y_5 H locs hP hD hS ls hl hrun
    rw [hK_6] at hrun
    refine va_put (ci := 0) (v := .int (bz y_5)) (ty := tyX6 0) (C := RX6) (T := TX6) (N := 22) hx hb hts in_X6 tyX6 tyX6_ok nmX6 hown hK hP hD hS 0 rfl rfl 0 (by decide) (hts _ q1902) (fun _ h9 => h9) rfl (tyX6_ok 0 (by decide)) rfl rfl (Nat.le_of_ble_eq_true rfl) dX6_key_14 (fun H locs hP hD hS => ?_)
    have hP : va_P D zCl (cT k a (tw_s_thrown t (bz y_5))) H := hP
    have hD : va_D A (cT k a (tw_s_thrown t (bz y_5))) := hD
    obtain ⟨t_7, et_7⟩ : ∃ z : Tw, z = (tw_s_thrown t (bz y_5)) := ⟨_, rfl⟩
    rw [← et_7] at hP hD
    have hrun := mlt_s hrun t_7 et_7
    refine lv_aload_n hx hb dX6_key_17 rfl (lv_at hl 0 rfl) ?_
    refine va_get (ci := 0) (v := .int (tw_thrown t_7)) (C := RX6) (T := TX6) (N := 22) hx hb hts in_X6 hown hK hP 0 rfl rfl 0 (by decide) (hts _ q1902) (fun _ h9 => h9) rfl dX6_key_18 ?_
    refine lv_if_ne (tgt := 61) hx hb dX6_key_21 (by decide) (fun c_8 => ?_) (fun c_8 => ?_)
    · have hrun := mif_n c_8 hrun
      refine lv_iconst (v := (0 : Int32)) hx hb dX6_key_61 (by decide) ?_
      cases hrun
      exact retW_z (v := false) hx hb hr hlocks hP hD hS ⟨rfl, rfl⟩ dX6_key_62
    have hrun := mif_p c_8 hrun
    refine lv_aload_n hx hb dX6_key_24 rfl (lv_at hl 0 rfl) ?_
    refine lv_bipush (v := (24 : Int32)) hx hb dX6_key_25 (by decide) ?_
    refine lv_iconst (v := (5 : Int32)) hx hb dX6_key_27 (by decide) ?_
    refine lv_iload_n hx hb dX6_key_28 rfl (lv_at hl 1 rfl) ?_
    refine lv_imul hx hb dX6_key_29 ?_
    refine lv_iadd hx hb dX6_key_30 ?_
    refine lv_iconst (v := (3 : Int32)) hx hb dX6_key_31 (by decide) ?_
    refine lv_iadd hx hb dX6_key_32 ?_
    refine lv_iload_n hx hb dX6_key_33 rfl (lv_at hl 2 rfl) ?_
    obtain ⟨K_12, hK_12, hrun⟩ := mjn_s hrun
    have hj_10 : ∀ (y_11 : Bool), ∀ (H : Heap) (locs : List Loc), va_P D zCl (cT k a t_7) H → va_D A (cT k a t_7) → va_S A s.heap H locs → ∀ ls : Array Slot, lv_has ls 3 [(2, .int (bz p2))] → K_12 y_11 = some (r, tt) → W p l e rX6_key s m args below meth c H locs 0 0 (MQ below (QWr (fun r' w' => r' = (some (.int (bz r))) ∧ w' = cT k a tt) D zCl A) args s 0 0 A) (F0 m 42 ls [.int (bz y_11), .int (((24 : Int32) + ((5 : Int32) * p1)) + (3 : Int32)), .ref (a 0)]) := by
      intro y_11 H locs hP hD hS ls hl hrun
      rw [hK_12] at hrun
      obtain ⟨r_15, t_14, hc_13, hrun⟩ := mo2_s rfl hrun
      refine cWV00 (As := [.int (((24 : Int32) + ((5 : Int32) * p1)) + (3 : Int32)), .int (bz y_11)]) (ci := 0) ⟨hx, hb, hml, hown, hts⟩ hOK hz hS hA hP hD (mtX6_sets l D k a Z hOK _ _ _ _ _ hc_13) (kX6_sets hts q2209 rfl rfl ⟨Nat.le_of_ble_eq_true rfl, Nat.le_of_ble_eq_true rfl⟩) 0 rfl rfl rfl hl.1 rfl (lv_room (Nat.le_of_ble_eq_true rfl)) ⟨Nat.le_of_ble_eq_true rfl, Nat.le_of_ble_eq_true rfl⟩ dX6_key_42 (fun r_ w_ H locs hq hP hD hS => ?_)
      obtain ⟨rfl, rfl⟩ := hq
      refine lv_iload_n hx hb dX6_key_45 rfl (lv_at hl 0 rfl) ?_
      obtain ⟨K_19, hK_19, hrun⟩ := mjn_s hrun
      have hj_17 : ∀ (y_18 : Bool), ∀ (H : Heap) (locs : List Loc), va_P D zCl (cT k a t_14) H → va_D A (cT k a t_14) → va_S A s.heap H locs → ∀ ls : Array Slot, lv_has ls 3 [] → K_19 y_18 = some (r, tt) → W p l e rX6_key s m args below meth c H locs 0 0 (MQ below (QWr (fun r' w' => r' = (some (.int (bz r))) ∧ w' = cT k a tt) D zCl A) args s 0 0 A) (F0 m 54 ls [.int (bz y_18), .int r_15]) := by
        intro y_18 H locs hP hD hS ls hl hrun
        rw [hK_19] at hrun
        refine lv_icmp_eq (tgt := 61) hx hb dX6_key_54 (by decide) (fun c_20 => ?_) (fun c_20 => ?_)
        · have hrun := mif_p c_20 hrun
          refine lv_iconst (v := (0 : Int32)) hx hb dX6_key_61 (by decide) ?_
          cases hrun
          exact retW_z (v := false) hx hb hr hlocks hP hD hS ⟨rfl, rfl⟩ dX6_key_62
        have hrun := mif_n c_20 hrun
        refine lv_iconst (v := (1 : Int32)) hx hb dX6_key_57 (by decide) ?_
        refine lv_goto (tgt := 62) hx hb dX6_key_58 (by decide) ?_
        cases hrun
        exact retW_z (v := true) hx hb hr hlocks hP hD hS ⟨rfl, rfl⟩ dX6_key_62
      refine lv_if_eq (tgt := 53) hx hb dX6_key_46 (by decide) (fun c_16 => ?_) (fun c_16 => ?_)
      · have hrun := mif_n (bz_z c_16) hrun
        refine lv_iconst (v := (0 : Int32)) hx hb dX6_key_53 (by decide) ?_
        exact hj_17 false _ _ hP hD hS ls (lv_sub hl [] rfl) hrun
      have hrun := mif_p (bz_nz c_16) hrun
      refine lv_iconst (v := (1 : Int32)) hx hb dX6_key_49 (by decide) ?_
      refine lv_goto (tgt := 54) hx hb dX6_key_50 (by decide) ?_
      exact hj_17 true _ _ hP hD hS ls (lv_sub hl [] rfl) hrun
    refine lv_if_eq (tgt := 41) hx hb dX6_key_34 (by decide) (fun c_9 => ?_) (fun c_9 => ?_)
    · have hrun := mif_n (bz_z c_9) hrun
      refine lv_iconst (v := (0 : Int32)) hx hb dX6_key_41 (by decide) ?_
      exact hj_10 false _ _ hP hD hS ls (lv_sub hl [2] rfl) hrun
    have hrun := mif_p (bz_nz c_9) hrun
    refine lv_iconst (v := (1 : Int32)) hx hb dX6_key_37 (by decide) ?_
    refine lv_goto (tgt := 42) hx hb dX6_key_38 (by decide) ?_
    exact hj_10 true _ _ hP hD hS ls (lv_sub hl [2] rfl) hrun
  refine lv_if_ne (tgt := 13) hx hb dX6_key_6 (by decide) (fun c_3 => ?_) (fun c_3 => ?_)
  · have hrun := mif_p (bz_nz c_3) hrun
    refine lv_iconst (v := (0 : Int32)) hx hb dX6_key_13 (by decide) ?_
    exact hj_4 false _ _ hP hD hS ls (lv_sub hl [0, 1, 2] rfl) hrun
  have hrun := mif_n (bz_z c_3) hrun
  refine lv_iconst (v := (1 : Int32)) hx hb dX6_key_9 (by decide) ?_
  refine lv_goto (tgt := 14) hx hb dX6_key_10 (by decide) ?_
  exact hj_4 true _ _ hP hD hS ls (lv_sub hl [0, 1, 2] rfl) hrun
