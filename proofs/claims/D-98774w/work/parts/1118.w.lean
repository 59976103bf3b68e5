/-! walks: X6_room, X6_atom, X6_every, X6_some, X6_atomx -/
def rX6_room : Room := { frames := 5, cells := 0, slots := 0, locals := 112 }
noncomputable def fX6_room (t : Tw) (p1 : Int32) (p2 : Int32) : Option (Int32 × Tw) :=
  mob (fX6_isRoom p1) fun r_2 =>
  mjn (fun (y_5 : Int32) =>
  mlt (tw_s_thrown t y_5) fun t_7 =>
  if (tw_thrown t_7) ≤ (0 : Int32) then
    if p2 = (0 : Int32) then
      mck ((16 : Int32) + p1) 704 <|
      some (((tw_m t_7) (Int32.toNatClampNeg ((16 : Int32) + p1))), t_7)
    else
      if p2 = (1 : Int32) then
        mob (fX6_from t_7 p1) fun r_17 =>
        some (r_17, t_7)
      else
        if p2 = (2 : Int32) then
          mob (fX6_guestsIn t_7 p1) fun r_15 =>
          some (r_15, t_7)
        else
          mob (fX6_watchers t_7 p1) fun r_13 =>
          some (r_13, t_7)
  else
    some ((0 : Int32), t_7)) fun K_6 =>
  if r_2 = true then
    mob (fX6_isIn p2 (0 : Int32) (3 : Int32)) fun r_20 =>
    if r_20 = true then
      K_6 (0 : Int32)
    else
      K_6 (2 : Int32)
  else
    K_6 (1 : Int32)
theorem kX6_room {R : Room} {s : State} {args : Array Value} {own : String} {idx mc ms : Nat} {rm : Room} (hts : ∀ w ∈ lw_all, w.before args s = true) (hl : Cond.methodLink own idx yX6_room ∈ lw_all) (hrc : rm.cells = mc) (hrs : rm.slots = ms) (hR : rm.frames + 1 ≤ R.frames ∧ 8 + (3 + 11) + rm.locals ≤ R.locals) : CallW R s args own RX6 idx yX6_room cX6_room 3 (some .int) (ws_ yX6_room cX6_room 3 (some .int)) rm mc ms 2 :=
  cwV 2 hts (lw_V hl q2179 q2180 q115 q2181) rfl hrc hrs (by decide +kernel) hR
set_option maxHeartbeats 4000000 in
set_option maxRecDepth 100000 in
theorem mtX6_room (l : Launch) (D : va_G) (k : Nat → ClassId) (a : Nat → Nat) (Z : zZ) (hOK : zOK D zCl (zTys k) Z) (t : Tw) (p1 : Int32) (p2 : Int32) (r : Int32) (tt : Tw) (hrun : fX6_room t p1 p2 = some (r, tt)) :
    CtW l yX6_room cX6_room 3 (some .int) rX6_room Z D zCl (cT k a t) [.ref (a 0), .int p1, .int p2] (fun r' w' => r' = (some (.int r)) ∧ w' = cT k a tt) 0 0 := by
  refine CtW.of (by decide) (Nat.le_of_ble_eq_true rfl) ?_
  intro p e s m args below meth c A hE hA hP hD hS hz ls hl
  obtain ⟨hx, hb, hr, hml, hown, hts, hlocks, hname⟩ := hE
  have hown : s.vm.findClass RX6 = some m.cls := hown
  have hK := hOK.1 _ _ _ hz
  have hl : lv_has ls 3 [(0, .ref (a 0)), (1, .int p1), (2, .int p2)] := hl
  unfold fX6_room at hrun
  refine lv_aload_n hx hb dX6_room_0 rfl (lv_at hl 0 rfl) ?_
  refine lv_iload_n hx hb dX6_room_1 rfl (lv_at hl 1 rfl) ?_
  obtain ⟨r_2, hc_1, hrun⟩ := mob_s rfl hrun
  refine cRS (ws := []) (As := [.int p1]) ⟨hx, hb, hml, hown, hts⟩ hOK hz hS zP0 (mtX6_isRoom l D Z hOK _ _ hc_1) (kX6_isRoom hts q2182 rfl rfl ⟨Nat.le_of_ble_eq_true rfl, Nat.le_of_ble_eq_true rfl⟩) rfl hl.1 rfl (lv_room (Nat.le_of_ble_eq_true rfl)) ⟨Nat.le_of_ble_eq_true rfl, Nat.le_of_ble_eq_true rfl⟩ dX6_room_2 ?_
  obtain ⟨K_6, hK_6, hrun⟩ := mjn_s hrun
  have hj_4 : ∀ (y_5 : Int32), ∀ (H : Heap) (locs : List Loc), va_P D zCl (cT k a t) H → va_D A (cT k a t) → va_S A s.heap H locs → ∀ ls : Array Slot, lv_has ls 3 [(0, .ref (a 0)), (1, .int p1), (2, .int p2)] → K_6 y_5 = some (r, tt) → W p l e rX6_room s m args below meth c H locs 0 0 (MQ below (QWr (fun r' w' => r' = (some (.int r)) ∧ w' = cT k a tt) D zCl A) args s 0 0 A) (F0 m 26 ls [.int y_5, .ref (a 0)]) := by
    intro y_5 H locs hP hD hS ls hl hrun
    rw [hK_6] at hrun
    refine va_put (ci := 0) (v := .int y_5) (ty := tyX6 0) (C := RX6) (T := TX6) (N := 22) hx hb hts in_X6 tyX6 tyX6_ok nmX6 hown hK hP hD hS 0 rfl rfl 0 (by decide) (hts _ q1902) (fun _ h9 => h9) rfl (tyX6_ok 0 (by decide)) rfl rfl (Nat.le_of_ble_eq_true rfl) dX6_room_26 (fun H locs hP hD hS => ?_)
    have hP : va_P D zCl (cT k a (tw_s_thrown t y_5)) H := hP
    have hD : va_D A (cT k a (tw_s_thrown t y_5)) := hD
    obtain ⟨t_7, et_7⟩ : ∃ z : Tw, z = (tw_s_thrown t y_5) := ⟨_, rfl⟩
    rw [← et_7] at hP hD
    have hrun := mlt_s hrun t_7 et_7
    refine lv_aload_n hx hb dX6_room_29 rfl (lv_at hl 0 rfl) ?_
    refine va_get (ci := 0) (v := .int (tw_thrown t_7)) (C := RX6) (T := TX6) (N := 22) hx hb hts in_X6 hown hK hP 0 rfl rfl 0 (by decide) (hts _ q1902) (fun _ h9 => h9) rfl dX6_room_30 ?_
    refine lv_if_le (tgt := 38) hx hb dX6_room_33 (by decide) (fun c_8 => ?_) (fun c_8 => ?_)
    · have hrun := mif_p c_8 hrun
      refine lv_iload_n hx hb dX6_room_38 rfl (lv_at hl 2 rfl) ?_
      refine lv_if_ne (tgt := 54) hx hb dX6_room_39 (by decide) (fun c_9 => ?_) (fun c_9 => ?_)
      · have hrun := mif_n c_9 hrun
        refine lv_iload_n hx hb dX6_room_54 rfl (lv_at hl 2 rfl) ?_
        refine lv_iconst (v := (1 : Int32)) hx hb dX6_room_55 (by decide) ?_
        refine lv_icmp_ne (tgt := 67) hx hb dX6_room_56 (by decide) (fun c_10 => ?_) (fun c_10 => ?_)
        · have hrun := mif_n c_10 hrun
          refine lv_iload_n hx hb dX6_room_67 rfl (lv_at hl 2 rfl) ?_
          refine lv_iconst (v := (2 : Int32)) hx hb dX6_room_68 (by decide) ?_
          refine lv_icmp_ne (tgt := 80) hx hb dX6_room_69 (by decide) (fun c_11 => ?_) (fun c_11 => ?_)
          · have hrun := mif_n c_11 hrun
            refine lv_aload_n hx hb dX6_room_80 rfl (lv_at hl 0 rfl) ?_
            refine lv_iload_n hx hb dX6_room_81 rfl (lv_at hl 1 rfl) ?_
            obtain ⟨r_13, hc_12, hrun⟩ := mob_s rfl hrun
            refine cRV (As := [.int p1]) (ci := 0) ⟨hx, hb, hml, hown, hts⟩ hOK hz hS hP (mtX6_watchers l D k a Z hOK _ _ _ hc_12) (kX6_watchers hts q2193 rfl rfl ⟨Nat.le_of_ble_eq_true rfl, Nat.le_of_ble_eq_true rfl⟩) 0 rfl rfl rfl hl.1 rfl (lv_room (Nat.le_of_ble_eq_true rfl)) ⟨Nat.le_of_ble_eq_true rfl, Nat.le_of_ble_eq_true rfl⟩ dX6_room_82 ?_
            cases hrun
            exact retW_i hx hb hr hlocks hP hD hS ⟨rfl, rfl⟩ dX6_room_85
          have hrun := mif_p c_11 hrun
          refine lv_aload_n hx hb dX6_room_72 rfl (lv_at hl 0 rfl) ?_
          refine lv_iload_n hx hb dX6_room_73 rfl (lv_at hl 1 rfl) ?_
          obtain ⟨r_15, hc_14, hrun⟩ := mob_s rfl hrun
          refine cRV (As := [.int p1]) (ci := 0) ⟨hx, hb, hml, hown, hts⟩ hOK hz hS hP (mtX6_guestsIn l D k a Z hOK _ _ _ hc_14) (kX6_guestsIn hts q2189 rfl rfl ⟨Nat.le_of_ble_eq_true rfl, Nat.le_of_ble_eq_true rfl⟩) 0 rfl rfl rfl hl.1 rfl (lv_room (Nat.le_of_ble_eq_true rfl)) ⟨Nat.le_of_ble_eq_true rfl, Nat.le_of_ble_eq_true rfl⟩ dX6_room_74 ?_
          refine lv_goto (tgt := 85) hx hb dX6_room_77 (by decide) ?_
          cases hrun
          exact retW_i hx hb hr hlocks hP hD hS ⟨rfl, rfl⟩ dX6_room_85
        have hrun := mif_p c_10 hrun
        refine lv_aload_n hx hb dX6_room_59 rfl (lv_at hl 0 rfl) ?_
        refine lv_iload_n hx hb dX6_room_60 rfl (lv_at hl 1 rfl) ?_
        obtain ⟨r_17, hc_16, hrun⟩ := mob_s rfl hrun
        refine cRV (As := [.int p1]) (ci := 0) ⟨hx, hb, hml, hown, hts⟩ hOK hz hS hP (mtX6_from l D k a Z hOK _ _ _ hc_16) (kX6_from hts q2185 rfl rfl ⟨Nat.le_of_ble_eq_true rfl, Nat.le_of_ble_eq_true rfl⟩) 0 rfl rfl rfl hl.1 rfl (lv_room (Nat.le_of_ble_eq_true rfl)) ⟨Nat.le_of_ble_eq_true rfl, Nat.le_of_ble_eq_true rfl⟩ dX6_room_61 ?_
        refine lv_goto (tgt := 85) hx hb dX6_room_64 (by decide) ?_
        cases hrun
        exact retW_i hx hb hr hlocks hP hD hS ⟨rfl, rfl⟩ dX6_room_85
      have hrun := mif_p c_9 hrun
      refine lv_aload_n hx hb dX6_room_42 rfl (lv_at hl 0 rfl) ?_
      refine va_get (ci := 0) (v := .ref (a 1)) (C := RX6) (T := TX6) (N := 22) hx hb hts in_X6 hown hK hP 0 rfl rfl 1 (by decide) (hts _ q1903) (fun _ h9 => h9) rfl dX6_room_43 ?_
      refine lv_bipush (v := (16 : Int32)) hx hb dX6_room_46 (by decide) ?_
      refine lv_iload_n hx hb dX6_room_48 rfl (lv_at hl 1 rfl) ?_
      refine lv_iadd hx hb dX6_room_49 ?_
      obtain ⟨hb_18, hrun⟩ := mck_s rfl hrun
      refine va_iald hx hb hK hP 1 0 rfl rfl hb_18 dX6_room_50 ?_
      refine lv_goto (tgt := 85) hx hb dX6_room_51 (by decide) ?_
      cases hrun
      exact retW_i hx hb hr hlocks hP hD hS ⟨rfl, rfl⟩ dX6_room_85
    have hrun := mif_n c_8 hrun
    refine lv_iconst (v := (0 : Int32)) hx hb dX6_room_36 (by decide) ?_
    cases hrun
    exact retW_i hx hb hr hlocks hP hD hS ⟨rfl, rfl⟩ dX6_room_37
  refine lv_if_ne (tgt := 12) hx hb dX6_room_5 (by decide) (fun c_3 => ?_) (fun c_3 => ?_)
  · have hrun := mif_p (bz_nz c_3) hrun
    refine lv_iload_n hx hb dX6_room_12 rfl (lv_at hl 2 rfl) ?_
    refine lv_iconst (v := (0 : Int32)) hx hb dX6_room_13 (by decide) ?_
    refine lv_iconst (v := (3 : Int32)) hx hb dX6_room_14 (by decide) ?_
    obtain ⟨r_20, hc_19, hrun⟩ := mob_s rfl hrun
    refine cRS (ws := []) (As := [.int p2, .int (0 : Int32), .int (3 : Int32)]) ⟨hx, hb, hml, hown, hts⟩ hOK hz hS zP0 (mtX6_isIn l D Z hOK _ _ _ _ hc_19) (kX6_isIn hts q1981 rfl rfl ⟨Nat.le_of_ble_eq_true rfl, Nat.le_of_ble_eq_true rfl⟩) rfl hl.1 rfl (lv_room (Nat.le_of_ble_eq_true rfl)) ⟨Nat.le_of_ble_eq_true rfl, Nat.le_of_ble_eq_true rfl⟩ dX6_room_15 ?_
    refine lv_if_ne (tgt := 25) hx hb dX6_room_18 (by decide) (fun c_21 => ?_) (fun c_21 => ?_)
    · have hrun := mif_p (bz_nz c_21) hrun
      refine lv_iconst (v := (0 : Int32)) hx hb dX6_room_25 (by decide) ?_
      exact hj_4 (0 : Int32) _ _ hP hD hS ls (lv_sub hl [0, 1, 2] rfl) hrun
    have hrun := mif_n (bz_z c_21) hrun
    refine lv_iconst (v := (2 : Int32)) hx hb dX6_room_21 (by decide) ?_
    refine lv_goto (tgt := 26) hx hb dX6_room_22 (by decide) ?_
    exact hj_4 (2 : Int32) _ _ hP hD hS ls (lv_sub hl [0, 1, 2] rfl) hrun
  have hrun := mif_n (bz_z c_3) hrun
  refine lv_iconst (v := (1 : Int32)) hx hb dX6_room_8 (by decide) ?_
  refine lv_goto (tgt := 26) hx hb dX6_room_9 (by decide) ?_
  exact hj_4 (1 : Int32) _ _ hP hD hS ls (lv_sub hl [0, 1, 2] rfl) hrun
def rX6_atom (d : Nat) : Room := { frames := 9 + 3 * d, cells := 0, slots := 0, locals := 183 + 90 * d }
theorem kX6_atom {R : Room} {s : State} {args : Array Value} {own : String} {idx mc ms : Nat} {rm : Room} (hts : ∀ w ∈ lw_all, w.before args s = true) (hl : Cond.methodLink own idx yX6_atom ∈ lw_all) (hrc : rm.cells = mc) (hrs : rm.slots = ms) (hR : rm.frames + 1 ≤ R.frames ∧ 8 + (4 + 11) + rm.locals ≤ R.locals) : CallW R s args own RX6 idx yX6_atom cX6_atom 4 (some .boolean) (ws_ yX6_atom cX6_atom 4 (some .boolean)) rm mc ms 0 :=
  cwV 0 hts (lw_V hl q2053 qs61 q115 q2054) rfl hrc hrs (by decide +kernel) hR
def rX6_every (d : Nat) : Room := { frames := 10 + 3 * d, cells := 0, slots := 0, locals := 213 + 90 * d }
noncomputable def fX6_every_L5 (fA : Tw → Option (Bool × Tw)) : Nat → Bool → Tw → Option (Bool × Tw)
  | 0, _, _ => none
  | n + 1, x1_5, t_6 =>
    if (tw_fault t_6) = (-1 : Int32) then
      mo2 (fX6_has t_6 17) fun r_10 t_9 =>
      if r_10 = true then
        mo2 (fA t_9) fun r_14 t_13 =>
        if x1_5 = true then
          if r_14 = true then
            fX6_every_L5 fA n true t_13
          else
            fX6_every_L5 fA n false t_13
        else
          fX6_every_L5 fA n false t_13
      else
        some (x1_5, t_9)
    else
      some (x1_5, t_6)
noncomputable def fX6_every (fA : Tw → Option (Bool × Tw)) (t : Tw) : Option (Bool × Tw) :=
  mo2 (fA t) fun r_3 t_2 =>
  fX6_every_L5 fA mFU r_3 t_2
theorem kX6_every {R : Room} {s : State} {args : Array Value} {own : String} {idx mc ms : Nat} {rm : Room} (hts : ∀ w ∈ lw_all, w.before args s = true) (hl : Cond.methodLink own idx yX6_every ∈ lw_all) (hrc : rm.cells = mc) (hrs : rm.slots = ms) (hR : rm.frames + 1 ≤ R.frames ∧ 8 + (3 + 11) + rm.locals ≤ R.locals) : CallW R s args own RX6 idx yX6_every cX6_every 3 (some .boolean) (ws_ yX6_every cX6_every 3 (some .boolean)) rm mc ms 0 :=
  cwV 0 hts (lw_V hl q2049 qs60 q115 q2050) rfl hrc hrs (by decide +kernel) hR
set_option maxHeartbeats 4000000 in
set_option maxRecDepth 100000 in
theorem mtX6_every (l : Launch) (D : va_G) (k : Nat → ClassId) (a : Nat → Nat) (Z : zZ) (hOK : zOK D zCl (zTys k) Z) {adK adV : Nat → Nat} (hStr : zStr Z adK adV) (d : Nat) (fA : Tw → Option (Bool × Tw)) (hAt : (∀ (t : Tw) (r : Bool) (tt : Tw), fA t = some (r, tt) → CtW l yX6_atom cX6_atom 4 (some .boolean) (rX6_atom d) Z D zCl (cT k a t) [.ref (a 0)] (fun r' w' => r' = (some (.int (bz r))) ∧ w' = cT k a tt) 0 0)) (t : Tw) (r : Bool) (tt : Tw) (hrun : fX6_every fA t = some (r, tt)) :
    CtW l yX6_every cX6_every 3 (some .boolean) (rX6_every d) Z D zCl (cT k a t) [.ref (a 0)] (fun r' w' => r' = (some (.int (bz r))) ∧ w' = cT k a tt) 0 0 := by
  refine CtW.of (by decide) (Nat.le_of_ble_eq_true rfl) ?_
  intro p e s m args below meth c A hE hA hP hD hS hz ls hl
  obtain ⟨hx, hb, hr, hml, hown, hts, hlocks, hname⟩ := hE
  have hown : s.vm.findClass RX6 = some m.cls := hown
  have hK := hOK.1 _ _ _ hz
  have hl : lv_has ls 3 [(0, .ref (a 0))] := hl
  unfold fX6_every at hrun
  refine lv_aload_n hx hb dX6_every_0 rfl (lv_at hl 0 rfl) ?_
  obtain ⟨r_3, t_2, hc_1, hrun⟩ := mo2_s rfl hrun
  refine cWV00 (As := []) (ci := 0) ⟨hx, hb, hml, hown, hts⟩ hOK hz hS hA hP hD (hAt _ _ _ hc_1) (kX6_atom hts q2051 rfl rfl (by constructor <;> (simp only [rX6_atom, rX6_every]; omega))) 0 rfl rfl rfl hl.1 rfl (lv_room (Nat.le_of_ble_eq_true rfl)) ⟨Nat.le_of_ble_eq_true rfl, Nat.le_of_ble_eq_true rfl⟩ dX6_every_1 (fun r_ w_ H locs hq hP hD hS => ?_)
  obtain ⟨rfl, rfl⟩ := hq
  refine lv_istore_n (lv' := [(1, .int (bz r_3)), (0, .ref (a 0))]) hx hb dX6_every_4 rfl hl (by decide) rfl (fun ls hl => ?_)
  have hL_4 : ∀ n : Nat, ∀ (x1_5 : Bool) (t_6 : Tw), ∀ (H : Heap) (locs : List Loc), va_P D zCl (cT k a t_6) H → va_D A (cT k a t_6) → va_S A s.heap H locs → ∀ ls : Array Slot, lv_has ls 3 [(0, .ref (a 0)), (1, .int (bz x1_5))] → fX6_every_L5 fA n x1_5 t_6 = some (r, tt) → W p l e (rX6_every d) s m args below meth c H locs 0 0 (MQ below (QWr (fun r' w' => r' = (some (.int (bz r))) ∧ w' = cT k a tt) D zCl A) args s 0 0 A) (F0 m 5 ls []) := by
    intro n
    induction n with
    | zero =>
      intro x1_5 t_6 H locs hP hD hS ls hl hrun
      exact nomatch hrun
    | succ n ih =>
      intro x1_5 t_6 H locs hP hD hS ls hl hrun
      rw [fX6_every_L5.eq_2] at hrun
      refine lv_aload_n hx hb dX6_every_5 rfl (lv_at hl 0 rfl) ?_
      refine va_get (ci := 0) (v := .int (tw_fault t_6)) (C := RX6) (T := TX6) (N := 22) hx hb hts in_X6 hown hK hP 0 rfl rfl 12 (by decide) (hts _ q1914) (fun _ h9 => h9) rfl dX6_every_6 ?_
      refine lv_iconst (v := (-1 : Int32)) hx hb dX6_every_9 (by decide) ?_
      refine lv_icmp_ne (tgt := 44) hx hb dX6_every_10 (by decide) (fun c_7 => ?_) (fun c_7 => ?_)
      · have hrun := mif_n c_7 hrun
        refine lv_iload_n hx hb dX6_every_44 rfl (lv_at hl 1 rfl) ?_
        cases hrun
        exact retW_z hx hb hr hlocks hP hD hS ⟨rfl, rfl⟩ dX6_every_45
      have hrun := mif_p c_7 hrun
      refine lv_aload_n hx hb dX6_every_13 rfl (lv_at hl 0 rfl) ?_
      refine va_ldcS hx hb hown (sr32 hStr hz) dX6_every_14 ?_
      obtain ⟨r_10, t_9, hc_8, hrun⟩ := mo2_s rfl hrun
      refine cWV00 (As := [.ref (adK 17)]) (ci := 0) ⟨hx, hb, hml, hown, hts⟩ hOK hz hS hA hP hD (mtX6_has l D k a Z hOK hStr _ _ _ _ hc_8) (kX6_has hts q2017 rfl rfl (by constructor <;> (simp only [rX6_has, rX6_every]; omega))) 0 rfl rfl rfl hl.1 rfl (lv_room (Nat.le_of_ble_eq_true rfl)) ⟨Nat.le_of_ble_eq_true rfl, Nat.le_of_ble_eq_true rfl⟩ dX6_every_16 (fun r_ w_ H locs hq hP hD hS => ?_)
      obtain ⟨rfl, rfl⟩ := hq
      refine lv_if_eq (tgt := 44) hx hb dX6_every_19 (by decide) (fun c_11 => ?_) (fun c_11 => ?_)
      · have hrun := mif_n (bz_z c_11) hrun
        refine lv_iload_n hx hb dX6_every_44 rfl (lv_at hl 1 rfl) ?_
        cases hrun
        exact retW_z hx hb hr hlocks hP hD hS ⟨rfl, rfl⟩ dX6_every_45
      have hrun := mif_p (bz_nz c_11) hrun
      refine lv_aload_n hx hb dX6_every_22 rfl (lv_at hl 0 rfl) ?_
      obtain ⟨r_14, t_13, hc_12, hrun⟩ := mo2_s rfl hrun
      refine cWV00 (As := []) (ci := 0) ⟨hx, hb, hml, hown, hts⟩ hOK hz hS hA hP hD (hAt _ _ _ hc_12) (kX6_atom hts q2051 rfl rfl (by constructor <;> (simp only [rX6_atom, rX6_every]; omega))) 0 rfl rfl rfl hl.1 rfl (lv_room (Nat.le_of_ble_eq_true rfl)) ⟨Nat.le_of_ble_eq_true rfl, Nat.le_of_ble_eq_true rfl⟩ dX6_every_23 (fun r_ w_ H locs hq hP hD hS => ?_)
      obtain ⟨rfl, rfl⟩ := hq
      refine lv_istore_n (lv' := [(2, .int (bz r_14)), (0, .ref (a 0)), (1, .int (bz x1_5))]) hx hb dX6_every_26 rfl hl (by decide) rfl (fun ls hl => ?_)
      refine lv_iload_n hx hb dX6_every_27 rfl (lv_at hl 2 rfl) ?_
      refine lv_if_eq (tgt := 39) hx hb dX6_every_28 (by decide) (fun c_15 => ?_) (fun c_15 => ?_)
      · have hrun := mif_n (bz_z c_15) hrun
        refine lv_iconst (v := (0 : Int32)) hx hb dX6_every_39 (by decide) ?_
        refine lv_istore_n (lv' := [(1, .int (0 : Int32)), (2, .int (bz r_14)), (0, .ref (a 0))]) hx hb dX6_every_40 rfl hl (by decide) rfl (fun ls hl => ?_)
        refine lv_goto (tgt := 5) hx hb dX6_every_41 (by decide) ?_
        exact ih false t_13 _ _ hP hD hS ls (lv_sub hl [2, 0] rfl) hrun
      have hrun := mif_p (bz_nz c_15) hrun
      refine lv_iload_n hx hb dX6_every_31 rfl (lv_at hl 0 rfl) ?_
      refine lv_if_eq (tgt := 39) hx hb dX6_every_32 (by decide) (fun c_16 => ?_) (fun c_16 => ?_)
      · have hrun := mif_n (bz_z c_16) hrun
        refine lv_iconst (v := (0 : Int32)) hx hb dX6_every_39 (by decide) ?_
        refine lv_istore_n (lv' := [(1, .int (0 : Int32)), (2, .int (bz r_14)), (0, .ref (a 0))]) hx hb dX6_every_40 rfl hl (by decide) rfl (fun ls hl => ?_)
        refine lv_goto (tgt := 5) hx hb dX6_every_41 (by decide) ?_
        exact ih false t_13 _ _ hP hD hS ls (lv_sub hl [2, 0] rfl) hrun
      have hrun := mif_p (bz_nz c_16) hrun
      refine lv_iconst (v := (1 : Int32)) hx hb dX6_every_35 (by decide) ?_
      refine lv_goto (tgt := 40) hx hb dX6_every_36 (by decide) ?_
      refine lv_istore_n (lv' := [(1, .int (1 : Int32)), (2, .int (bz r_14)), (0, .ref (a 0))]) hx hb dX6_every_40 rfl hl (by decide) rfl (fun ls hl => ?_)
      refine lv_goto (tgt := 5) hx hb dX6_every_41 (by decide) ?_
      exact ih true t_13 _ _ hP hD hS ls (lv_sub hl [2, 0] rfl) hrun
  exact hL_4 mFU r_3 t_2 _ _ hP hD hS ls (lv_sub hl [1, 0] rfl) hrun
def rX6_some (d : Nat) : Room := { frames := 11 + 3 * d, cells := 0, slots := 0, locals := 243 + 90 * d }
noncomputable def fX6_some_L5 (fA : Tw → Option (Bool × Tw)) : Nat → Bool → Tw → Option (Bool × Tw)
  | 0, _, _ => none
  | n + 1, x1_5, t_6 =>
    if (tw_fault t_6) = (-1 : Int32) then
      mo2 (fX6_has t_6 18) fun r_10 t_9 =>
      if r_10 = true then
        mo2 (fX6_every fA t_9) fun r_14 t_13 =>
        if x1_5 = true then
          fX6_some_L5 fA n true t_13
        else
          if r_14 = true then
            fX6_some_L5 fA n true t_13
          else
            fX6_some_L5 fA n false t_13
      else
        some (x1_5, t_9)
    else
      some (x1_5, t_6)
noncomputable def fX6_some (fA : Tw → Option (Bool × Tw)) (t : Tw) : Option (Bool × Tw) :=
  mo2 (fX6_every fA t) fun r_3 t_2 =>
  fX6_some_L5 fA mFU r_3 t_2
theorem kX6_some {R : Room} {s : State} {args : Array Value} {own : String} {idx mc ms : Nat} {rm : Room} (hts : ∀ w ∈ lw_all, w.before args s = true) (hl : Cond.methodLink own idx yX6_some ∈ lw_all) (hrc : rm.cells = mc) (hrs : rm.slots = ms) (hR : rm.frames + 1 ≤ R.frames ∧ 8 + (3 + 11) + rm.locals ≤ R.locals) : CallW R s args own RX6 idx yX6_some cX6_some 3 (some .boolean) (ws_ yX6_some cX6_some 3 (some .boolean)) rm mc ms 0 :=
  cwV 0 hts (lw_V hl q2045 qs59 q115 q2046) rfl hrc hrs (by decide +kernel) hR
set_option maxHeartbeats 4000000 in
set_option maxRecDepth 100000 in
theorem mtX6_some (l : Launch) (D : va_G) (k : Nat → ClassId) (a : Nat → Nat) (Z : zZ) (hOK : zOK D zCl (zTys k) Z) {adK adV : Nat → Nat} (hStr : zStr Z adK adV) (d : Nat) (fA : Tw → Option (Bool × Tw)) (hAt : (∀ (t : Tw) (r : Bool) (tt : Tw), fA t = some (r, tt) → CtW l yX6_atom cX6_atom 4 (some .boolean) (rX6_atom d) Z D zCl (cT k a t) [.ref (a 0)] (fun r' w' => r' = (some (.int (bz r))) ∧ w' = cT k a tt) 0 0)) (t : Tw) (r : Bool) (tt : Tw) (hrun : fX6_some fA t = some (r, tt)) :
    CtW l yX6_some cX6_some 3 (some .boolean) (rX6_some d) Z D zCl (cT k a t) [.ref (a 0)] (fun r' w' => r' = (some (.int (bz r))) ∧ w' = cT k a tt) 0 0 := by
  refine CtW.of (by decide) (Nat.le_of_ble_eq_true rfl) ?_
  intro p e s m args below meth c A hE hA hP hD hS hz ls hl
  obtain ⟨hx, hb, hr, hml, hown, hts, hlocks, hname⟩ := hE
  have hown : s.vm.findClass RX6 = some m.cls := hown
  have hK := hOK.1 _ _ _ hz
  have hl : lv_has ls 3 [(0, .ref (a 0))] := hl
  unfold fX6_some at hrun
  refine lv_aload_n hx hb dX6_some_0 rfl (lv_at hl 0 rfl) ?_
  obtain ⟨r_3, t_2, hc_1, hrun⟩ := mo2_s rfl hrun
  refine cWV00 (As := []) (ci := 0) ⟨hx, hb, hml, hown, hts⟩ hOK hz hS hA hP hD (mtX6_every l D k a Z hOK hStr d fA hAt _ _ _ hc_1) (kX6_every hts q2047 rfl rfl (by constructor <;> (simp only [rX6_every, rX6_some]; omega))) 0 rfl rfl rfl hl.1 rfl (lv_room (Nat.le_of_ble_eq_true rfl)) ⟨Nat.le_of_ble_eq_true rfl, Nat.le_of_ble_eq_true rfl⟩ dX6_some_1 (fun r_ w_ H locs hq hP hD hS => ?_)
  obtain ⟨rfl, rfl⟩ := hq
  refine lv_istore_n (lv' := [(1, .int (bz r_3)), (0, .ref (a 0))]) hx hb dX6_some_4 rfl hl (by decide) rfl (fun ls hl => ?_)
  have hL_4 : ∀ n : Nat, ∀ (x1_5 : Bool) (t_6 : Tw), ∀ (H : Heap) (locs : List Loc), va_P D zCl (cT k a t_6) H → va_D A (cT k a t_6) → va_S A s.heap H locs → ∀ ls : Array Slot, lv_has ls 3 [(0, .ref (a 0)), (1, .int (bz x1_5))] → fX6_some_L5 fA n x1_5 t_6 = some (r, tt) → W p l e (rX6_some d) s m args below meth c H locs 0 0 (MQ below (QWr (fun r' w' => r' = (some (.int (bz r))) ∧ w' = cT k a tt) D zCl A) args s 0 0 A) (F0 m 5 ls []) := by
    intro n
    induction n with
    | zero =>
      intro x1_5 t_6 H locs hP hD hS ls hl hrun
      exact nomatch hrun
    | succ n ih =>
      intro x1_5 t_6 H locs hP hD hS ls hl hrun
      rw [fX6_some_L5.eq_2] at hrun
      refine lv_aload_n hx hb dX6_some_5 rfl (lv_at hl 0 rfl) ?_
      refine va_get (ci := 0) (v := .int (tw_fault t_6)) (C := RX6) (T := TX6) (N := 22) hx hb hts in_X6 hown hK hP 0 rfl rfl 12 (by decide) (hts _ q1914) (fun _ h9 => h9) rfl dX6_some_6 ?_
      refine lv_iconst (v := (-1 : Int32)) hx hb dX6_some_9 (by decide) ?_
      refine lv_icmp_ne (tgt := 44) hx hb dX6_some_10 (by decide) (fun c_7 => ?_) (fun c_7 => ?_)
      · have hrun := mif_n c_7 hrun
        refine lv_iload_n hx hb dX6_some_44 rfl (lv_at hl 1 rfl) ?_
        cases hrun
        exact retW_z hx hb hr hlocks hP hD hS ⟨rfl, rfl⟩ dX6_some_45
      have hrun := mif_p c_7 hrun
      refine lv_aload_n hx hb dX6_some_13 rfl (lv_at hl 0 rfl) ?_
      refine va_ldcS hx hb hown (sr33 hStr hz) dX6_some_14 ?_
      obtain ⟨r_10, t_9, hc_8, hrun⟩ := mo2_s rfl hrun
      refine cWV00 (As := [.ref (adK 18)]) (ci := 0) ⟨hx, hb, hml, hown, hts⟩ hOK hz hS hA hP hD (mtX6_has l D k a Z hOK hStr _ _ _ _ hc_8) (kX6_has hts q2017 rfl rfl (by constructor <;> (simp only [rX6_has, rX6_some]; omega))) 0 rfl rfl rfl hl.1 rfl (lv_room (Nat.le_of_ble_eq_true rfl)) ⟨Nat.le_of_ble_eq_true rfl, Nat.le_of_ble_eq_true rfl⟩ dX6_some_16 (fun r_ w_ H locs hq hP hD hS => ?_)
      obtain ⟨rfl, rfl⟩ := hq
      refine lv_if_eq (tgt := 44) hx hb dX6_some_19 (by decide) (fun c_11 => ?_) (fun c_11 => ?_)
      · have hrun := mif_n (bz_z c_11) hrun
        refine lv_iload_n hx hb dX6_some_44 rfl (lv_at hl 1 rfl) ?_
        cases hrun
        exact retW_z hx hb hr hlocks hP hD hS ⟨rfl, rfl⟩ dX6_some_45
      have hrun := mif_p (bz_nz c_11) hrun
      refine lv_aload_n hx hb dX6_some_22 rfl (lv_at hl 0 rfl) ?_
      obtain ⟨r_14, t_13, hc_12, hrun⟩ := mo2_s rfl hrun
      refine cWV00 (As := []) (ci := 0) ⟨hx, hb, hml, hown, hts⟩ hOK hz hS hA hP hD (mtX6_every l D k a Z hOK hStr d fA hAt _ _ _ hc_12) (kX6_every hts q2047 rfl rfl (by constructor <;> (simp only [rX6_every, rX6_some]; omega))) 0 rfl rfl rfl hl.1 rfl (lv_room (Nat.le_of_ble_eq_true rfl)) ⟨Nat.le_of_ble_eq_true rfl, Nat.le_of_ble_eq_true rfl⟩ dX6_some_23 (fun r_ w_ H locs hq hP hD hS => ?_)
      obtain ⟨rfl, rfl⟩ := hq
      refine lv_istore_n (lv' := [(2, .int (bz r_14)), (0, .ref (a 0)), (1, .int (bz x1_5))]) hx hb dX6_some_26 rfl hl (by decide) rfl (fun ls hl => ?_)
      refine lv_iload_n hx hb dX6_some_27 rfl (lv_at hl 2 rfl) ?_
      refine lv_if_ne (tgt := 35) hx hb dX6_some_28 (by decide) (fun c_15 => ?_) (fun c_15 => ?_)
      · have hrun := mif_p (bz_nz c_15) hrun
        refine lv_iconst (v := (1 : Int32)) hx hb dX6_some_35 (by decide) ?_
        refine lv_goto (tgt := 40) hx hb dX6_some_36 (by decide) ?_
        refine lv_istore_n (lv' := [(1, .int (1 : Int32)), (2, .int (bz r_14)), (0, .ref (a 0))]) hx hb dX6_some_40 rfl hl (by decide) rfl (fun ls hl => ?_)
        refine lv_goto (tgt := 5) hx hb dX6_some_41 (by decide) ?_
        exact ih true t_13 _ _ hP hD hS ls (lv_sub hl [2, 0] rfl) hrun
      have hrun := mif_n (bz_z c_15) hrun
      refine lv_iload_n hx hb dX6_some_31 rfl (lv_at hl 0 rfl) ?_
      refine lv_if_eq (tgt := 39) hx hb dX6_some_32 (by decide) (fun c_16 => ?_) (fun c_16 => ?_)
      · have hrun := mif_n (bz_z c_16) hrun
        refine lv_iconst (v := (0 : Int32)) hx hb dX6_some_39 (by decide) ?_
        refine lv_istore_n (lv' := [(1, .int (0 : Int32)), (2, .int (bz r_14)), (0, .ref (a 0))]) hx hb dX6_some_40 rfl hl (by decide) rfl (fun ls hl => ?_)
        refine lv_goto (tgt := 5) hx hb dX6_some_41 (by decide) ?_
        exact ih false t_13 _ _ hP hD hS ls (lv_sub hl [2, 0] rfl) hrun
      have hrun := mif_p (bz_nz c_16) hrun
      refine lv_iconst (v := (1 : Int32)) hx hb dX6_some_35 (by decide) ?_
      refine lv_goto (tgt := 40) hx hb dX6_some_36 (by decide) ?_
      refine lv_istore_n (lv' := [(1, .int (1 : Int32)), (2, .int (bz r_14)), (0, .ref (a 0))]) hx hb dX6_some_40 rfl hl (by decide) rfl (fun ls hl => ?_)
      refine lv_goto (tgt := 5) hx hb dX6_some_41 (by decide) ?_
      exact ih true t_13 _ _ hP hD hS ls (lv_sub hl [2, 0] rfl) hrun
  exact hL_4 mFU r_3 t_2 _ _ hP hD hS ls (lv_sub hl [1, 0] rfl) hrun
def rX6_atomx : Nat := 0
noncomputable def fX6_atom : Nat → Tw → Option (Bool × Tw)
  | 0, _ => none
  | d + 1, t =>
    if (tw_fault t) = (-1 : Int32) then
      mo2 (fX6_place t) fun r_4 t_3 =>
      mo2 (fX6_has t_3 15) fun r_7 t_6 =>
      if r_7 = true then
        if (tw_deep t_6) = (6 : Int32) then
          mob (fX6_wrong t_6 r_4) fun t_37 =>
          some (false, t_37)
        else
          mlt (tw_s_deep t_6 ((tw_deep t_6) + (1 : Int32))) fun t_10 =>
          mjn (fun (x3_13 : Bool) (t_14 : Tw) =>
          mlt (tw_s_deep t_14 ((tw_deep t_14) - (1 : Int32))) fun t_16 =>
          some (x3_13, t_16)) fun K_15 =>
          if r_7 = true then
            mo2 ((fX6_atom d) t_10) fun r_34 t_33 =>
            if r_34 = true then
              K_15 false t_33
            else
              K_15 true t_33
          else
            mlt (tw_s_at_ t_10 ((tw_at_ t_10) + (1 : Int32))) fun t_17 =>
            mo2 (fX6_some (fX6_atom d) t_17) fun r_20 t_19 =>
            mjn (fun (t_23 : Tw) =>
            mlt (tw_s_at_ t_23 ((tw_at_ t_23) + (1 : Int32))) fun t_25 =>
            K_15 r_20 t_25) fun K_24 =>
            if (tw_fault t_19) = (-1 : Int32) then
              mo2 (fX6_isSign t_19 (41 : Int32)) fun r_28 t_27 =>
              if r_28 = true then
                K_24 t_27
              else
                mob (fX6_wrong t_27 (tw_at_ t_27)) fun t_31 =>
                K_24 t_31
            else
              K_24 t_19
      else
        mo2 (fX6_isSign t_6 (40 : Int32)) fun r_40 t_39 =>
        if r_40 = true then
          if (tw_deep t_39) = (6 : Int32) then
            mob (fX6_wrong t_39 r_4) fun t_70 =>
            some (false, t_70)
          else
            mlt (tw_s_deep t_39 ((tw_deep t_39) + (1 : Int32))) fun t_43 =>
            mjn (fun (x3_46 : Bool) (t_47 : Tw) =>
            mlt (tw_s_deep t_47 ((tw_deep t_47) - (1 : Int32))) fun t_49 =>
            some (x3_46, t_49)) fun K_48 =>
            if r_7 = true then
              mo2 ((fX6_atom d) t_43) fun r_67 t_66 =>
              if r_67 = true then
                K_48 false t_66
              else
                K_48 true t_66
            else
              mlt (tw_s_at_ t_43 ((tw_at_ t_43) + (1 : Int32))) fun t_50 =>
              mo2 (fX6_some (fX6_atom d) t_50) fun r_53 t_52 =>
              mjn (fun (t_56 : Tw) =>
              mlt (tw_s_at_ t_56 ((tw_at_ t_56) + (1 : Int32))) fun t_58 =>
              K_48 r_53 t_58) fun K_57 =>
              if (tw_fault t_52) = (-1 : Int32) then
                mo2 (fX6_isSign t_52 (41 : Int32)) fun r_61 t_60 =>
                if r_61 = true then
                  K_57 t_60
                else
                  mob (fX6_wrong t_60 (tw_at_ t_60)) fun t_64 =>
                  K_57 t_64
              else
                K_57 t_52
        else
          mo2 (fX6_plain t_39) fun r_73 t_72 =>
          some (r_73, t_72)
    else
      some (false, t)
set_option maxHeartbeats 4000000 in
set_option maxRecDepth 100000 in
theorem mtX6_atom (l : Launch) (D : va_G) (k : Nat → ClassId) (a : Nat → Nat) (Z : zZ) (hOK : zOK D zCl (zTys k) Z) {adK adV : Nat → Nat} (hStr : zStr Z adK adV) : ∀ (d : Nat), (∀ (t : Tw) (r : Bool) (tt : Tw), fX6_atom d t = some (r, tt) → CtW l yX6_atom cX6_atom 4 (some .boolean) (rX6_atom d) Z D zCl (cT k a t) [.ref (a 0)] (fun r' w' => r' = (some (.int (bz r))) ∧ w' = cT k a tt) 0 0) := by
  intro d
  induction d with
  | zero => intro t r tt hrun; exact nomatch hrun
  | succ d hAt =>
    intro t r tt hrun
    rw [fX6_atom.eq_2] at hrun
    refine CtW.of (by decide) (Nat.le_of_ble_eq_true rfl) ?_
    intro p e s m args below meth c A hE hA hP hD hS hz ls hl
    obtain ⟨hx, hb, hr, hml, hown, hts, hlocks, hname⟩ := hE
    have hown : s.vm.findClass RX6 = some m.cls := hown
    have hK := hOK.1 _ _ _ hz
    have hl : lv_has ls 4 [(0, .ref (a 0))] := hl
    refine lv_aload_n hx hb dX6_atom_0 rfl (lv_at hl 0 rfl) ?_
    refine va_get (ci := 0) (v := .int (tw_fault t)) (C := RX6) (T := TX6) (N := 22) hx hb hts in_X6 hown hK hP 0 rfl rfl 12 (by decide) (hts _ q1914) (fun _ h9 => h9) rfl dX6_atom_1 ?_
    refine lv_iconst (v := (-1 : Int32)) hx hb dX6_atom_4 (by decide) ?_
    refine lv_icmp_eq (tgt := 10) hx hb dX6_atom_5 (by decide) (fun c_1 => ?_) (fun c_1 => ?_)
    · have hrun := mif_p c_1 hrun
      refine lv_aload_n hx hb dX6_atom_10 rfl (lv_at hl 0 rfl) ?_
      obtain ⟨r_4, t_3, hc_2, hrun⟩ := mo2_s rfl hrun
      refine cWV00 (As := []) (ci := 0) ⟨hx, hb, hml, hown, hts⟩ hOK hz hS hA hP hD (mtX6_place l D k a Z hOK _ _ _ hc_2) (kX6_place hts q2038 rfl rfl (by constructor <;> (simp only [rX6_place, rX6_atom]; omega))) 0 rfl rfl rfl hl.1 rfl (lv_room (Nat.le_of_ble_eq_true rfl)) ⟨Nat.le_of_ble_eq_true rfl, Nat.le_of_ble_eq_true rfl⟩ dX6_atom_11 (fun r_ w_ H locs hq hP hD hS => ?_)
      obtain ⟨rfl, rfl⟩ := hq
      refine lv_istore_n (lv' := [(1, .int r_4), (0, .ref (a 0))]) hx hb dX6_atom_14 rfl hl (by decide) rfl (fun ls hl => ?_)
      refine lv_aload_n hx hb dX6_atom_15 rfl (lv_at hl 1 rfl) ?_
      refine va_ldcS hx hb hown (sr22 hStr hz) dX6_atom_16 ?_
      obtain ⟨r_7, t_6, hc_5, hrun⟩ := mo2_s rfl hrun
      refine cWV00 (As := [.ref (adK 15)]) (ci := 0) ⟨hx, hb, hml, hown, hts⟩ hOK hz hS hA hP hD (mtX6_has l D k a Z hOK hStr _ _ _ _ hc_5) (kX6_has hts q2017 rfl rfl (by constructor <;> (simp only [rX6_has, rX6_atom]; omega))) 0 rfl rfl rfl hl.1 rfl (lv_room (Nat.le_of_ble_eq_true rfl)) ⟨Nat.le_of_ble_eq_true rfl, Nat.le_of_ble_eq_true rfl⟩ dX6_atom_18 (fun r_ w_ H locs hq hP hD hS => ?_)
      obtain ⟨rfl, rfl⟩ := hq
      refine lv_istore_n (lv' := [(2, .int (bz r_7)), (1, .int r_4), (0, .ref (a 0))]) hx hb dX6_atom_21 rfl hl (by decide) rfl (fun ls hl => ?_)
      refine lv_iload_n hx hb dX6_atom_22 rfl (lv_at hl 0 rfl) ?_
      refine lv_if_ne (tgt := 40) hx hb dX6_atom_23 (by decide) (fun c_8 => ?_) (fun c_8 => ?_)
      · have hrun := mif_p (bz_nz c_8) hrun
        refine lv_aload_n hx hb dX6_atom_40 rfl (lv_at hl 2 rfl) ?_
        refine va_get (ci := 0) (v := .int (tw_deep t_6)) (C := RX6) (T := TX6) (N := 22) hx hb hts in_X6 hown hK hP 0 rfl rfl 13 (by decide) (hts _ q1915) (fun _ h9 => h9) rfl dX6_atom_41 ?_
        refine lv_bipush (v := (6 : Int32)) hx hb dX6_atom_44 (by decide) ?_
        refine lv_icmp_ne (tgt := 56) hx hb dX6_atom_46 (by decide) (fun c_9 => ?_) (fun c_9 => ?_)
        · have hrun := mif_n c_9 hrun
          refine lv_aload_n hx hb dX6_atom_56 rfl (lv_at hl 2 rfl) ?_
          refine lv_dup hx hb dX6_atom_57 rfl ?_
          refine va_get (ci := 0) (v := .int (tw_deep t_6)) (C := RX6) (T := TX6) (N := 22) hx hb hts in_X6 hown hK hP 0 rfl rfl 13 (by decide) (hts _ q1915) (fun _ h9 => h9) rfl dX6_atom_58 ?_
          refine lv_iconst (v := (1 : Int32)) hx hb dX6_atom_61 (by decide) ?_
          refine lv_iadd hx hb dX6_atom_62 ?_
          refine va_put (ci := 0) (v := .int ((tw_deep t_6) + (1 : Int32))) (ty := tyX6 13) (C := RX6) (T := TX6) (N := 22) hx hb hts in_X6 tyX6 tyX6_ok nmX6 hown hK hP hD hS 0 rfl rfl 13 (by decide) (hts _ q1915) (fun _ h9 => h9) rfl (tyX6_ok 13 (by decide)) rfl rfl (Nat.le_of_ble_eq_true rfl) dX6_atom_63 (fun H locs hP hD hS => ?_)
          have hP : va_P D zCl (cT k a (tw_s_deep t_6 ((tw_deep t_6) + (1 : Int32)))) H := hP
          have hD : va_D A (cT k a (tw_s_deep t_6 ((tw_deep t_6) + (1 : Int32)))) := hD
          obtain ⟨t_10, et_10⟩ : ∃ z : Tw, z = (tw_s_deep t_6 ((tw_deep t_6) + (1 : Int32))) := ⟨_, rfl⟩
          rw [← et_10] at hP hD
          have hrun := mlt_s hrun t_10 et_10
          refine lv_iconst (v := (0 : Int32)) hx hb dX6_atom_66 (by decide) ?_
          refine lv_istore_n (lv' := [(3, .int (0 : Int32)), (2, .int (bz r_7)), (1, .int r_4), (0, .ref (a 0))]) hx hb dX6_atom_67 rfl hl (by decide) rfl (fun ls hl => ?_)
          refine lv_iload_n hx hb dX6_atom_68 rfl (lv_at hl 1 rfl) ?_
          obtain ⟨K_15, hK_15, hrun⟩ := mjn_s hrun
          have hj_12 : ∀ (x3_13 : Bool) (t_14 : Tw), ∀ (H : Heap) (locs : List Loc), va_P D zCl (cT k a t_14) H → va_D A (cT k a t_14) → va_S A s.heap H locs → ∀ ls : Array Slot, lv_has ls 4 [(0, .ref (a 0)), (3, .int (bz x3_13))] → K_15 x3_13 t_14 = some (r, tt) → W p l e (rX6_atom (d + 1)) s m args below meth c H locs 0 0 (MQ below (QWr (fun r' w' => r' = (some (.int (bz r))) ∧ w' = cT k a tt) D zCl A) args s 0 0 A) (F0 m 138 ls []) := by
            intro x3_13 t_14 H locs hP hD hS ls hl hrun
            rw [hK_15] at hrun
            refine lv_aload_n hx hb dX6_atom_138 rfl (lv_at hl 0 rfl) ?_
            refine lv_dup hx hb dX6_atom_139 rfl ?_
            refine va_get (ci := 0) (v := .int (tw_deep t_14)) (C := RX6) (T := TX6) (N := 22) hx hb hts in_X6 hown hK hP 0 rfl rfl 13 (by decide) (hts _ q1915) (fun _ h9 => h9) rfl dX6_atom_140 ?_
            refine lv_iconst (v := (1 : Int32)) hx hb dX6_atom_143 (by decide) ?_
            refine lv_isub hx hb dX6_atom_144 ?_
            refine va_put (ci := 0) (v := .int ((tw_deep t_14) - (1 : Int32))) (ty := tyX6 13) (C := RX6) (T := TX6) (N := 22) hx hb hts in_X6 tyX6 tyX6_ok nmX6 hown hK hP hD hS 0 rfl rfl 13 (by decide) (hts _ q1915) (fun _ h9 => h9) rfl (tyX6_ok 13 (by decide)) rfl rfl (Nat.le_of_ble_eq_true rfl) dX6_atom_145 (fun H locs hP hD hS => ?_)
            have hP : va_P D zCl (cT k a (tw_s_deep t_14 ((tw_deep t_14) - (1 : Int32)))) H := hP
            have hD : va_D A (cT k a (tw_s_deep t_14 ((tw_deep t_14) - (1 : Int32)))) := hD
            obtain ⟨t_16, et_16⟩ : ∃ z : Tw, z = (tw_s_deep t_14 ((tw_deep t_14) - (1 : Int32))) := ⟨_, rfl⟩
            rw [← et_16] at hP hD
            have hrun := mlt_s hrun t_16 et_16
            refine lv_iload_n hx hb dX6_atom_148 rfl (lv_at hl 1 rfl) ?_
            cases hrun
            exact retW_z hx hb hr hlocks hP hD hS ⟨rfl, rfl⟩ dX6_atom_149
          refine lv_if_eq (tgt := 88) hx hb dX6_atom_69 (by decide) (fun c_11 => ?_) (fun c_11 => ?_)
          · have hrun := mif_n (bz_z c_11) hrun
            refine lv_aload_n hx hb dX6_atom_88 rfl (lv_at hl 3 rfl) ?_
            refine lv_dup hx hb dX6_atom_89 rfl ?_
            refine va_get (ci := 0) (v := .int (tw_at_ t_10)) (C := RX6) (T := TX6) (N := 22) hx hb hts in_X6 hown hK hP 0 rfl rfl 11 (by decide) (hts _ q1913) (fun _ h9 => h9) rfl dX6_atom_90 ?_
            refine lv_iconst (v := (1 : Int32)) hx hb dX6_atom_93 (by decide) ?_
            refine lv_iadd hx hb dX6_atom_94 ?_
            refine va_put (ci := 0) (v := .int ((tw_at_ t_10) + (1 : Int32))) (ty := tyX6 11) (C := RX6) (T := TX6) (N := 22) hx hb hts in_X6 tyX6 tyX6_ok nmX6 hown hK hP hD hS 0 rfl rfl 11 (by decide) (hts _ q1913) (fun _ h9 => h9) rfl (tyX6_ok 11 (by decide)) rfl rfl (Nat.le_of_ble_eq_true rfl) dX6_atom_95 (fun H locs hP hD hS => ?_)
            have hP : va_P D zCl (cT k a (tw_s_at_ t_10 ((tw_at_ t_10) + (1 : Int32)))) H := hP
            have hD : va_D A (cT k a (tw_s_at_ t_10 ((tw_at_ t_10) + (1 : Int32)))) := hD
            obtain ⟨t_17, et_17⟩ : ∃ z : Tw, z = (tw_s_at_ t_10 ((tw_at_ t_10) + (1 : Int32))) := ⟨_, rfl⟩
            rw [← et_17] at hP hD
            have hrun := mlt_s hrun t_17 et_17
            refine lv_aload_n hx hb dX6_atom_98 rfl (lv_at hl 3 rfl) ?_
            obtain ⟨r_20, t_19, hc_18, hrun⟩ := mo2_s rfl hrun
            refine cWV00 (As := []) (ci := 0) ⟨hx, hb, hml, hown, hts⟩ hOK hz hS hA hP hD (mtX6_some l D k a Z hOK hStr d (fX6_atom d) hAt _ _ _ hc_18) (kX6_some hts q2043 rfl rfl (by constructor <;> (simp only [rX6_some, rX6_atom]; omega))) 0 rfl rfl rfl hl.1 rfl (lv_room (Nat.le_of_ble_eq_true rfl)) ⟨Nat.le_of_ble_eq_true rfl, Nat.le_of_ble_eq_true rfl⟩ dX6_atom_99 (fun r_ w_ H locs hq hP hD hS => ?_)
            obtain ⟨rfl, rfl⟩ := hq
            refine lv_istore_n (lv' := [(3, .int (bz r_20)), (2, .int (bz r_7)), (1, .int r_4), (0, .ref (a 0))]) hx hb dX6_atom_102 rfl hl (by decide) rfl (fun ls hl => ?_)
            refine lv_aload_n hx hb dX6_atom_103 rfl (lv_at hl 3 rfl) ?_
            refine va_get (ci := 0) (v := .int (tw_fault t_19)) (C := RX6) (T := TX6) (N := 22) hx hb hts in_X6 hown hK hP 0 rfl rfl 12 (by decide) (hts _ q1914) (fun _ h9 => h9) rfl dX6_atom_104 ?_
            refine lv_iconst (v := (-1 : Int32)) hx hb dX6_atom_107 (by decide) ?_
            obtain ⟨K_24, hK_24, hrun⟩ := mjn_s hrun
            have hj_22 : ∀ (t_23 : Tw), ∀ (H : Heap) (locs : List Loc), va_P D zCl (cT k a t_23) H → va_D A (cT k a t_23) → va_S A s.heap H locs → ∀ ls : Array Slot, lv_has ls 4 [(0, .ref (a 0)), (3, .int (bz r_20))] → K_24 t_23 = some (r, tt) → W p l e (rX6_atom (d + 1)) s m args below meth c H locs 0 0 (MQ below (QWr (fun r' w' => r' = (some (.int (bz r))) ∧ w' = cT k a tt) D zCl A) args s 0 0 A) (F0 m 128 ls []) := by
              intro t_23 H locs hP hD hS ls hl hrun
              rw [hK_24] at hrun
              refine lv_aload_n hx hb dX6_atom_128 rfl (lv_at hl 0 rfl) ?_
              refine lv_dup hx hb dX6_atom_129 rfl ?_
              refine va_get (ci := 0) (v := .int (tw_at_ t_23)) (C := RX6) (T := TX6) (N := 22) hx hb hts in_X6 hown hK hP 0 rfl rfl 11 (by decide) (hts _ q1913) (fun _ h9 => h9) rfl dX6_atom_130 ?_
              refine lv_iconst (v := (1 : Int32)) hx hb dX6_atom_133 (by decide) ?_
              refine lv_iadd hx hb dX6_atom_134 ?_
              refine va_put (ci := 0) (v := .int ((tw_at_ t_23) + (1 : Int32))) (ty := tyX6 11) (C := RX6) (T := TX6) (N := 22) hx hb hts in_X6 tyX6 tyX6_ok nmX6 hown hK hP hD hS 0 rfl rfl 11 (by decide) (hts _ q1913) (fun _ h9 => h9) rfl (tyX6_ok 11 (by decide)) rfl rfl (Nat.le_of_ble_eq_true rfl) dX6_atom_135 (fun H locs hP hD hS => ?_)
              have hP : va_P D zCl (cT k a (tw_s_at_ t_23 ((tw_at_ t_23) + (1 : Int32)))) H := hP
              have hD : va_D A (cT k a (tw_s_at_ t_23 ((tw_at_ t_23) + (1 : Int32)))) := hD
              obtain ⟨t_25, et_25⟩ : ∃ z : Tw, z = (tw_s_at_ t_23 ((tw_at_ t_23) + (1 : Int32))) := ⟨_, rfl⟩
              rw [← et_25] at hP hD
              have hrun := mlt_s hrun t_25 et_25
              exact hj_12 r_20 t_25 _ _ hP hD hS ls (lv_sub hl [0, 1] rfl) hrun
            refine lv_icmp_ne (tgt := 128) hx hb dX6_atom_108 (by decide) (fun c_21 => ?_) (fun c_21 => ?_)
            · have hrun := mif_n c_21 hrun
              exact hj_22 t_19 _ _ hP hD hS ls (lv_sub hl [3, 0] rfl) hrun
            have hrun := mif_p c_21 hrun
            refine lv_aload_n hx hb dX6_atom_111 rfl (lv_at hl 3 rfl) ?_
            refine lv_bipush (v := (41 : Int32)) hx hb dX6_atom_112 (by decide) ?_
            obtain ⟨r_28, t_27, hc_26, hrun⟩ := mo2_s rfl hrun
            refine cWV00 (As := [.int (41 : Int32)]) (ci := 0) ⟨hx, hb, hml, hown, hts⟩ hOK hz hS hA hP hD (mtX6_isSign l D k a Z hOK _ _ _ _ hc_26) (kX6_isSign hts q2056 rfl rfl (by constructor <;> (simp only [rX6_isSign, rX6_atom]; omega))) 0 rfl rfl rfl hl.1 rfl (lv_room (Nat.le_of_ble_eq_true rfl)) ⟨Nat.le_of_ble_eq_true rfl, Nat.le_of_ble_eq_true rfl⟩ dX6_atom_114 (fun r_ w_ H locs hq hP hD hS => ?_)
            obtain ⟨rfl, rfl⟩ := hq
            refine lv_if_ne (tgt := 128) hx hb dX6_atom_117 (by decide) (fun c_29 => ?_) (fun c_29 => ?_)
            · have hrun := mif_p (bz_nz c_29) hrun
              exact hj_22 t_27 _ _ hP hD hS ls (lv_sub hl [3, 0] rfl) hrun
            have hrun := mif_n (bz_z c_29) hrun
            refine lv_aload_n hx hb dX6_atom_120 rfl (lv_at hl 3 rfl) ?_
            refine lv_aload_n hx hb dX6_atom_121 rfl (lv_at hl 3 rfl) ?_
            refine va_get (ci := 0) (v := .int (tw_at_ t_27)) (C := RX6) (T := TX6) (N := 22) hx hb hts in_X6 hown hK hP 0 rfl rfl 11 (by decide) (hts _ q1913) (fun _ h9 => h9) rfl dX6_atom_122 ?_
            obtain ⟨t_31, hc_30, hrun⟩ := mob_s rfl hrun
            refine cWV00 (As := [.int (tw_at_ t_27)]) (ci := 0) ⟨hx, hb, hml, hown, hts⟩ hOK hz hS hA hP hD (mtX6_wrong l D k a Z hOK _ _ _ hc_30) (kX6_wrong hts q2008 rfl rfl (by constructor <;> (simp only [rX6_wrong, rX6_atom]; omega))) 0 rfl rfl rfl hl.1 rfl (lv_room (Nat.le_of_ble_eq_true rfl)) ⟨Nat.le_of_ble_eq_true rfl, Nat.le_of_ble_eq_true rfl⟩ dX6_atom_125 (fun r_ w_ H locs hq hP hD hS => ?_)
            obtain ⟨rfl, rfl⟩ := hq
            exact hj_22 t_31 _ _ hP hD hS ls (lv_sub hl [3, 0] rfl) hrun
          have hrun := mif_p (bz_nz c_11) hrun
          refine lv_aload_n hx hb dX6_atom_72 rfl (lv_at hl 3 rfl) ?_
          obtain ⟨r_34, t_33, hc_32, hrun⟩ := mo2_s rfl hrun
          refine cWV00 (As := []) (ci := 0) ⟨hx, hb, hml, hown, hts⟩ hOK hz hS hA hP hD (hAt _ _ _ hc_32) (kX6_atom hts q2051 rfl rfl (by constructor <;> (simp only [rX6_atom, rX6_atom]; omega))) 0 rfl rfl rfl hl.1 rfl (lv_room (Nat.le_of_ble_eq_true rfl)) ⟨Nat.le_of_ble_eq_true rfl, Nat.le_of_ble_eq_true rfl⟩ dX6_atom_73 (fun r_ w_ H locs hq hP hD hS => ?_)
          obtain ⟨rfl, rfl⟩ := hq
          refine lv_if_ne (tgt := 83) hx hb dX6_atom_76 (by decide) (fun c_35 => ?_) (fun c_35 => ?_)
          · have hrun := mif_p (bz_nz c_35) hrun
            refine lv_iconst (v := (0 : Int32)) hx hb dX6_atom_83 (by decide) ?_
            refine lv_istore_n (lv' := [(3, .int (0 : Int32)), (2, .int (bz r_7)), (1, .int r_4), (0, .ref (a 0))]) hx hb dX6_atom_84 rfl hl (by decide) rfl (fun ls hl => ?_)
            refine lv_goto (tgt := 138) hx hb dX6_atom_85 (by decide) ?_
            exact hj_12 false t_33 _ _ hP hD hS ls (lv_sub hl [3, 0] rfl) hrun
          have hrun := mif_n (bz_z c_35) hrun
          refine lv_iconst (v := (1 : Int32)) hx hb dX6_atom_79 (by decide) ?_
          refine lv_goto (tgt := 84) hx hb dX6_atom_80 (by decide) ?_
          refine lv_istore_n (lv' := [(3, .int (1 : Int32)), (2, .int (bz r_7)), (1, .int r_4), (0, .ref (a 0))]) hx hb dX6_atom_84 rfl hl (by decide) rfl (fun ls hl => ?_)
          refine lv_goto (tgt := 138) hx hb dX6_atom_85 (by decide) ?_
          exact hj_12 true t_33 _ _ hP hD hS ls (lv_sub hl [3, 0] rfl) hrun
        have hrun := mif_p c_9 hrun
        refine lv_aload_n hx hb dX6_atom_49 rfl (lv_at hl 2 rfl) ?_
        refine lv_iload_n hx hb dX6_atom_50 rfl (lv_at hl 1 rfl) ?_
        obtain ⟨t_37, hc_36, hrun⟩ := mob_s rfl hrun
        refine cWV00 (As := [.int r_4]) (ci := 0) ⟨hx, hb, hml, hown, hts⟩ hOK hz hS hA hP hD (mtX6_wrong l D k a Z hOK _ _ _ hc_36) (kX6_wrong hts q2008 rfl rfl (by constructor <;> (simp only [rX6_wrong, rX6_atom]; omega))) 0 rfl rfl rfl hl.1 rfl (lv_room (Nat.le_of_ble_eq_true rfl)) ⟨Nat.le_of_ble_eq_true rfl, Nat.le_of_ble_eq_true rfl⟩ dX6_atom_51 (fun r_ w_ H locs hq hP hD hS => ?_)
        obtain ⟨rfl, rfl⟩ := hq
        refine lv_iconst (v := (0 : Int32)) hx hb dX6_atom_54 (by decide) ?_
        cases hrun
        exact retW_z (v := false) hx hb hr hlocks hP hD hS ⟨rfl, rfl⟩ dX6_atom_55
      have hrun := mif_n (bz_z c_8) hrun
      refine lv_aload_n hx hb dX6_atom_26 rfl (lv_at hl 2 rfl) ?_
      refine lv_bipush (v := (40 : Int32)) hx hb dX6_atom_27 (by decide) ?_
      obtain ⟨r_40, t_39, hc_38, hrun⟩ := mo2_s rfl hrun
      refine cWV00 (As := [.int (40 : Int32)]) (ci := 0) ⟨hx, hb, hml, hown, hts⟩ hOK hz hS hA hP hD (mtX6_isSign l D k a Z hOK _ _ _ _ hc_38) (kX6_isSign hts q2056 rfl rfl (by constructor <;> (simp only [rX6_isSign, rX6_atom]; omega))) 0 rfl rfl rfl hl.1 rfl (lv_room (Nat.le_of_ble_eq_true rfl)) ⟨Nat.le_of_ble_eq_true rfl, Nat.le_of_ble_eq_true rfl⟩ dX6_atom_29 (fun r_ w_ H locs hq hP hD hS => ?_)
      obtain ⟨rfl, rfl⟩ := hq
      refine lv_if_ne (tgt := 40) hx hb dX6_atom_32 (by decide) (fun c_41 => ?_) (fun c_41 => ?_)
      · have hrun := mif_p (bz_nz c_41) hrun
        refine lv_aload_n hx hb dX6_atom_40 rfl (lv_at hl 2 rfl) ?_
        refine va_get (ci := 0) (v := .int (tw_deep t_39)) (C := RX6) (T := TX6) (N := 22) hx hb hts in_X6 hown hK hP 0 rfl rfl 13 (by decide) (hts _ q1915) (fun _ h9 => h9) rfl dX6_atom_41 ?_
        refine lv_bipush (v := (6 : Int32)) hx hb dX6_atom_44 (by decide) ?_
        refine lv_icmp_ne (tgt := 56) hx hb dX6_atom_46 (by decide) (fun c_42 => ?_) (fun c_42 => ?_)
        · have hrun := mif_n c_42 hrun
          refine lv_aload_n hx hb dX6_atom_56 rfl (lv_at hl 2 rfl) ?_
          refine lv_dup hx hb dX6_atom_57 rfl ?_
          refine va_get (ci := 0) (v := .int (tw_deep t_39)) (C := RX6) (T := TX6) (N := 22) hx hb hts in_X6 hown hK hP 0 rfl rfl 13 (by decide) (hts _ q1915) (fun _ h9 => h9) rfl dX6_atom_58 ?_
          refine lv_iconst (v := (1 : Int32)) hx hb dX6_atom_61 (by decide) ?_
          refine lv_iadd hx hb dX6_atom_62 ?_
          refine va_put (ci := 0) (v := .int ((tw_deep t_39) + (1 : Int32))) (ty := tyX6 13) (C := RX6) (T := TX6) (N := 22) hx hb hts in_X6 tyX6 tyX6_ok nmX6 hown hK hP hD hS 0 rfl rfl 13 (by decide) (hts _ q1915) (fun _ h9 => h9) rfl (tyX6_ok 13 (by decide)) rfl rfl (Nat.le_of_ble_eq_true rfl) dX6_atom_63 (fun H locs hP hD hS => ?_)
          have hP : va_P D zCl (cT k a (tw_s_deep t_39 ((tw_deep t_39) + (1 : Int32)))) H := hP
          have hD : va_D A (cT k a (tw_s_deep t_39 ((tw_deep t_39) + (1 : Int32)))) := hD
          obtain ⟨t_43, et_43⟩ : ∃ z : Tw, z = (tw_s_deep t_39 ((tw_deep t_39) + (1 : Int32))) := ⟨_, rfl⟩
          rw [← et_43] at hP hD
          have hrun := mlt_s hrun t_43 et_43
          refine lv_iconst (v := (0 : Int32)) hx hb dX6_atom_66 (by decide) ?_
          refine lv_istore_n (lv' := [(3, .int (0 : Int32)), (2, .int (bz r_7)), (1, .int r_4), (0, .ref (a 0))]) hx hb dX6_atom_67 rfl hl (by decide) rfl (fun ls hl => ?_)
          refine lv_iload_n hx hb dX6_atom_68 rfl (lv_at hl 1 rfl) ?_
          obtain ⟨K_48, hK_48, hrun⟩ := mjn_s hrun
          have hj_45 : ∀ (x3_46 : Bool) (t_47 : Tw), ∀ (H : Heap) (locs : List Loc), va_P D zCl (cT k a t_47) H → va_D A (cT k a t_47) → va_S A s.heap H locs → ∀ ls : Array Slot, lv_has ls 4 [(0, .ref (a 0)), (3, .int (bz x3_46))] → K_48 x3_46 t_47 = some (r, tt) → W p l e (rX6_atom (d + 1)) s m args below meth c H locs 0 0 (MQ below (QWr (fun r' w' => r' = (some (.int (bz r))) ∧ w' = cT k a tt) D zCl A) args s 0 0 A) (F0 m 138 ls []) := by
            intro x3_46 t_47 H locs hP hD hS ls hl hrun
            rw [hK_48] at hrun
            refine lv_aload_n hx hb dX6_atom_138 rfl (lv_at hl 0 rfl) ?_
            refine lv_dup hx hb dX6_atom_139 rfl ?_
            refine va_get (ci := 0) (v := .int (tw_deep t_47)) (C := RX6) (T := TX6) (N := 22) hx hb hts in_X6 hown hK hP 0 rfl rfl 13 (by decide) (hts _ q1915) (fun _ h9 => h9) rfl dX6_atom_140 ?_
            refine lv_iconst (v := (1 : Int32)) hx hb dX6_atom_143 (by decide) ?_
            refine lv_isub hx hb dX6_atom_144 ?_
            refine va_put (ci := 0) (v := .int ((tw_deep t_47) - (1 : Int32))) (ty := tyX6 13) (C := RX6) (T := TX6) (N := 22) hx hb hts in_X6 tyX6 tyX6_ok nmX6 hown hK hP hD hS 0 rfl rfl 13 (by decide) (hts _ q1915) (fun _ h9 => h9) rfl (tyX6_ok 13 (by decide)) rfl rfl (Nat.le_of_ble_eq_true rfl) dX6_atom_145 (fun H locs hP hD hS => ?_)
            have hP : va_P D zCl (cT k a (tw_s_deep t_47 ((tw_deep t_47) - (1 : Int32)))) H := hP
            have hD : va_D A (cT k a (tw_s_deep t_47 ((tw_deep t_47) - (1 : Int32)))) := hD
            obtain ⟨t_49, et_49⟩ : ∃ z : Tw, z = (tw_s_deep t_47 ((tw_deep t_47) - (1 : Int32))) := ⟨_, rfl⟩
            rw [← et_49] at hP hD
            have hrun := mlt_s hrun t_49 et_49
            refine lv_iload_n hx hb dX6_atom_148 rfl (lv_at hl 1 rfl) ?_
            cases hrun
            exact retW_z hx hb hr hlocks hP hD hS ⟨rfl, rfl⟩ dX6_atom_149
          refine lv_if_eq (tgt := 88) hx hb dX6_atom_69 (by decide) (fun c_44 => ?_) (fun c_44 => ?_)
          · have hrun := mif_n (bz_z c_44) hrun
            refine lv_aload_n hx hb dX6_atom_88 rfl (lv_at hl 3 rfl) ?_
            refine lv_dup hx hb dX6_atom_89 rfl ?_
            refine va_get (ci := 0) (v := .int (tw_at_ t_43)) (C := RX6) (T := TX6) (N := 22) hx hb hts in_X6 hown hK hP 0 rfl rfl 11 (by decide) (hts _ q1913) (fun _ h9 => h9) rfl dX6_atom_90 ?_
            refine lv_iconst (v := (1 : Int32)) hx hb dX6_atom_93 (by decide) ?_
            refine lv_iadd hx hb dX6_atom_94 ?_
            refine va_put (ci := 0) (v := .int ((tw_at_ t_43) + (1 : Int32))) (ty := tyX6 11) (C := RX6) (T := TX6) (N := 22) hx hb hts in_X6 tyX6 tyX6_ok nmX6 hown hK hP hD hS 0 rfl rfl 11 (by decide) (hts _ q1913) (fun _ h9 => h9) rfl (tyX6_ok 11 (by decide)) rfl rfl (Nat.le_of_ble_eq_true rfl) dX6_atom_95 (fun H locs hP hD hS => ?_)
            have hP : va_P D zCl (cT k a (tw_s_at_ t_43 ((tw_at_ t_43) + (1 : Int32)))) H := hP
            have hD : va_D A (cT k a (tw_s_at_ t_43 ((tw_at_ t_43) + (1 : Int32)))) := hD
            obtain ⟨t_50, et_50⟩ : ∃ z : Tw, z = (tw_s_at_ t_43 ((tw_at_ t_43) + (1 : Int32))) := ⟨_, rfl⟩
            rw [← et_50] at hP hD
            have hrun := mlt_s hrun t_50 et_50
            refine lv_aload_n hx hb dX6_atom_98 rfl (lv_at hl 3 rfl) ?_
            obtain ⟨r_53, t_52, hc_51, hrun⟩ := mo2_s rfl hrun
            refine cWV00 (As := []) (ci := 0) ⟨hx, hb, hml, hown, hts⟩ hOK hz hS hA hP hD (mtX6_some l D k a Z hOK hStr d (fX6_atom d) hAt _ _ _ hc_51) (kX6_some hts q2043 rfl rfl (by constructor <;> (simp only [rX6_some, rX6_atom]; omega))) 0 rfl rfl rfl hl.1 rfl (lv_room (Nat.le_of_ble_eq_true rfl)) ⟨Nat.le_of_ble_eq_true rfl, Nat.le_of_ble_eq_true rfl⟩ dX6_atom_99 (fun r_ w_ H locs hq hP hD hS => ?_)
            obtain ⟨rfl, rfl⟩ := hq
            refine lv_istore_n (lv' := [(3, .int (bz r_53)), (2, .int (bz r_7)), (1, .int r_4), (0, .ref (a 0))]) hx hb dX6_atom_102 rfl hl (by decide) rfl (fun ls hl => ?_)
            refine lv_aload_n hx hb dX6_atom_103 rfl (lv_at hl 3 rfl) ?_
            refine va_get (ci := 0) (v := .int (tw_fault t_52)) (C := RX6) (T := TX6) (N := 22) hx hb hts in_X6 hown hK hP 0 rfl rfl 12 (by decide) (hts _ q1914) (fun _ h9 => h9) rfl dX6_atom_104 ?_
            refine lv_iconst (v := (-1 : Int32)) hx hb dX6_atom_107 (by decide) ?_
            obtain ⟨K_57, hK_57, hrun⟩ := mjn_s hrun
            have hj_55 : ∀ (t_56 : Tw), ∀ (H : Heap) (locs : List Loc), va_P D zCl (cT k a t_56) H → va_D A (cT k a t_56) → va_S A s.heap H locs → ∀ ls : Array Slot, lv_has ls 4 [(0, .ref (a 0)), (3, .int (bz r_53))] → K_57 t_56 = some (r, tt) → W p l e (rX6_atom (d + 1)) s m args below meth c H locs 0 0 (MQ below (QWr (fun r' w' => r' = (some (.int (bz r))) ∧ w' = cT k a tt) D zCl A) args s 0 0 A) (F0 m 128 ls []) := by
              intro t_56 H locs hP hD hS ls hl hrun
              rw [hK_57] at hrun
              refine lv_aload_n hx hb dX6_atom_128 rfl (lv_at hl 0 rfl) ?_
              refine lv_dup hx hb dX6_atom_129 rfl ?_
              refine va_get (ci := 0) (v := .int (tw_at_ t_56)) (C := RX6) (T := TX6) (N := 22) hx hb hts in_X6 hown hK hP 0 rfl rfl 11 (by decide) (hts _ q1913) (fun _ h9 => h9) rfl dX6_atom_130 ?_
              refine lv_iconst (v := (1 : Int32)) hx hb dX6_atom_133 (by decide) ?_
              refine lv_iadd hx hb dX6_atom_134 ?_
              refine va_put (ci := 0) (v := .int ((tw_at_ t_56) + (1 : Int32))) (ty := tyX6 11) (C := RX6) (T := TX6) (N := 22) hx hb hts in_X6 tyX6 tyX6_ok nmX6 hown hK hP hD hS 0 rfl rfl 11 (by decide) (hts _ q1913) (fun _ h9 => h9) rfl (tyX6_ok 11 (by decide)) rfl rfl (Nat.le_of_ble_eq_true rfl) dX6_atom_135 (fun H locs hP hD hS => ?_)
              have hP : va_P D zCl (cT k a (tw_s_at_ t_56 ((tw_at_ t_56) + (1 : Int32)))) H := hP
              have hD : va_D A (cT k a (tw_s_at_ t_56 ((tw_at_ t_56) + (1 : Int32)))) := hD
              obtain ⟨t_58, et_58⟩ : ∃ z : Tw, z = (tw_s_at_ t_56 ((tw_at_ t_56) + (1 : Int32))) := ⟨_, rfl⟩
              rw [← et_58] at hP hD
              have hrun := mlt_s hrun t_58 et_58
              exact hj_45 r_53 t_58 _ _ hP hD hS ls (lv_sub hl [0, 1] rfl) hrun
            refine lv_icmp_ne (tgt := 128) hx hb dX6_atom_108 (by decide) (fun c_54 => ?_) (fun c_54 => ?_)
            · have hrun := mif_n c_54 hrun
              exact hj_55 t_52 _ _ hP hD hS ls (lv_sub hl [3, 0] rfl) hrun
            have hrun := mif_p c_54 hrun
            refine lv_aload_n hx hb dX6_atom_111 rfl (lv_at hl 3 rfl) ?_
            refine lv_bipush (v := (41 : Int32)) hx hb dX6_atom_112 (by decide) ?_
            obtain ⟨r_61, t_60, hc_59, hrun⟩ := mo2_s rfl hrun
            refine cWV00 (As := [.int (41 : Int32)]) (ci := 0) ⟨hx, hb, hml, hown, hts⟩ hOK hz hS hA hP hD (mtX6_isSign l D k a Z hOK _ _ _ _ hc_59) (kX6_isSign hts q2056 rfl rfl (by constructor <;> (simp only [rX6_isSign, rX6_atom]; omega))) 0 rfl rfl rfl hl.1 rfl (lv_room (Nat.le_of_ble_eq_true rfl)) ⟨Nat.le_of_ble_eq_true rfl, Nat.le_of_ble_eq_true rfl⟩ dX6_atom_114 (fun r_ w_ H locs hq hP hD hS => ?_)
            obtain ⟨rfl, rfl⟩ := hq
            refine lv_if_ne (tgt := 128) hx hb dX6_atom_117 (by decide) (fun c_62 => ?_) (fun c_62 => ?_)
            · have hrun := mif_p (bz_nz c_62) hrun
              exact hj_55 t_60 _ _ hP hD hS ls (lv_sub hl [3, 0] rfl) hrun
            have hrun := mif_n (bz_z c_62) hrun
            refine lv_aload_n hx hb dX6_atom_120 rfl (lv_at hl 3 rfl) ?_
            refine lv_aload_n hx hb dX6_atom_121 rfl (lv_at hl 3 rfl) ?_
            refine va_get (ci := 0) (v := .int (tw_at_ t_60)) (C := RX6) (T := TX6) (N := 22) hx hb hts in_X6 hown hK hP 0 rfl rfl 11 (by decide) (hts _ q1913) (fun _ h9 => h9) rfl dX6_atom_122 ?_
            obtain ⟨t_64, hc_63, hrun⟩ := mob_s rfl hrun
            refine cWV00 (As := [.int (tw_at_ t_60)]) (ci := 0) ⟨hx, hb, hml, hown, hts⟩ hOK hz hS hA hP hD (mtX6_wrong l D k a Z hOK _ _ _ hc_63) (kX6_wrong hts q2008 rfl rfl (by constructor <;> (simp only [rX6_wrong, rX6_atom]; omega))) 0 rfl rfl rfl hl.1 rfl (lv_room (Nat.le_of_ble_eq_true rfl)) ⟨Nat.le_of_ble_eq_true rfl, Nat.le_of_ble_eq_true rfl⟩ dX6_atom_125 (fun r_ w_ H locs hq hP hD hS => ?_)
            obtain ⟨rfl, rfl⟩ := hq
            exact hj_55 t_64 _ _ hP hD hS ls (lv_sub hl [3, 0] rfl) hrun
          have hrun := mif_p (bz_nz c_44) hrun
          refine lv_aload_n hx hb dX6_atom_72 rfl (lv_at hl 3 rfl) ?_
          obtain ⟨r_67, t_66, hc_65, hrun⟩ := mo2_s rfl hrun
          refine cWV00 (As := []) (ci := 0) ⟨hx, hb, hml, hown, hts⟩ hOK hz hS hA hP hD (hAt _ _ _ hc_65) (kX6_atom hts q2051 rfl rfl (by constructor <;> (simp only [rX6_atom, rX6_atom]; omega))) 0 rfl rfl rfl hl.1 rfl (lv_room (Nat.le_of_ble_eq_true rfl)) ⟨Nat.le_of_ble_eq_true rfl, Nat.le_of_ble_eq_true rfl⟩ dX6_atom_73 (fun r_ w_ H locs hq hP hD hS => ?_)
          obtain ⟨rfl, rfl⟩ := hq
          refine lv_if_ne (tgt := 83) hx hb dX6_atom_76 (by decide) (fun c_68 => ?_) (fun c_68 => ?_)
          · have hrun := mif_p (bz_nz c_68) hrun
            refine lv_iconst (v := (0 : Int32)) hx hb dX6_atom_83 (by decide) ?_
            refine lv_istore_n (lv' := [(3, .int (0 : Int32)), (2, .int (bz r_7)), (1, .int r_4), (0, .ref (a 0))]) hx hb dX6_atom_84 rfl hl (by decide) rfl (fun ls hl => ?_)
            refine lv_goto (tgt := 138) hx hb dX6_atom_85 (by decide) ?_
            exact hj_45 false t_66 _ _ hP hD hS ls (lv_sub hl [3, 0] rfl) hrun
          have hrun := mif_n (bz_z c_68) hrun
          refine lv_iconst (v := (1 : Int32)) hx hb dX6_atom_79 (by decide) ?_
          refine lv_goto (tgt := 84) hx hb dX6_atom_80 (by decide) ?_
          refine lv_istore_n (lv' := [(3, .int (1 : Int32)), (2, .int (bz r_7)), (1, .int r_4), (0, .ref (a 0))]) hx hb dX6_atom_84 rfl hl (by decide) rfl (fun ls hl => ?_)
          refine lv_goto (tgt := 138) hx hb dX6_atom_85 (by decide) ?_
          exact hj_45 true t_66 _ _ hP hD hS ls (lv_sub hl [3, 0] rfl) hrun
        have hrun := mif_p c_42 hrun
        refine lv_aload_n hx hb dX6_atom_49 rfl (lv_at hl 2 rfl) ?_
        refine lv_iload_n hx hb dX6_atom_50 rfl (lv_at hl 1 rfl) ?_
        obtain ⟨t_70, hc_69, hrun⟩ := mob_s rfl hrun
        refine cWV00 (As := [.int r_4]) (ci := 0) ⟨hx, hb, hml, hown, hts⟩ hOK hz hS hA hP hD (mtX6_wrong l D k a Z hOK _ _ _ hc_69) (kX6_wrong hts q2008 rfl rfl (by constructor <;> (simp only [rX6_wrong, rX6_atom]; omega))) 0 rfl rfl rfl hl.1 rfl (lv_room (Nat.le_of_ble_eq_true rfl)) ⟨Nat.le_of_ble_eq_true rfl, Nat.le_of_ble_eq_true rfl⟩ dX6_atom_51 (fun r_ w_ H locs hq hP hD hS => ?_)
        obtain ⟨rfl, rfl⟩ := hq
        refine lv_iconst (v := (0 : Int32)) hx hb dX6_atom_54 (by decide) ?_
        cases hrun
        exact retW_z (v := false) hx hb hr hlocks hP hD hS ⟨rfl, rfl⟩ dX6_atom_55
      have hrun := mif_n (bz_z c_41) hrun
      refine lv_aload_n hx hb dX6_atom_35 rfl (lv_at hl 2 rfl) ?_
      obtain ⟨r_73, t_72, hc_71, hrun⟩ := mo2_s rfl hrun
      refine cWV00 (As := []) (ci := 0) ⟨hx, hb, hml, hown, hts⟩ hOK hz hS hA hP hD (mtX6_plain l D k a Z hOK hStr _ _ _ hc_71) (kX6_plain hts q2060 rfl rfl (by constructor <;> (simp only [rX6_plain, rX6_atom]; omega))) 0 rfl rfl rfl hl.1 rfl (lv_room (Nat.le_of_ble_eq_true rfl)) ⟨Nat.le_of_ble_eq_true rfl, Nat.le_of_ble_eq_true rfl⟩ dX6_atom_36 (fun r_ w_ H locs hq hP hD hS => ?_)
      obtain ⟨rfl, rfl⟩ := hq
      cases hrun
      exact retW_z hx hb hr hlocks hP hD hS ⟨rfl, rfl⟩ dX6_atom_39
    have hrun := mif_n c_1 hrun
    refine lv_iconst (v := (0 : Int32)) hx hb dX6_atom_8 (by decide) ?_
    cases hrun
    exact retW_z (v := false) hx hb hr hlocks hP hD hS ⟨rfl, rfl⟩ dX6_atom_9
