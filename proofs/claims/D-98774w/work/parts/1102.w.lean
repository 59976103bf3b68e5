/-! walks: X6_bits, X6_isSaturday, X6_isHere, X6_doubts, X6_isOf, X6_isRoom, X6_guestsIn, X6_calendar, X6_saturday -/
def rX6_bits : Room := { frames := 0, cells := 0, slots := 0, locals := 0 }
noncomputable def fX6_bits_L4 (p0 : Int32) : Nat → Int32 → Int32 → Option (Int32)
  | 0, _, _ => none
  | n + 1, x1_2, x2_3 =>
    if (31 : Int32) ≤ x2_3 then
      some x1_2
    else
      fX6_bits_L4 p0 n (x1_2 + ((p0 >>> (x2_3 &&& (31 : Int32))) &&& (1 : Int32))) (x2_3 + (1 : Int32))
noncomputable def fX6_bits (p0 : Int32) : Option (Int32) :=
  fX6_bits_L4 p0 mFU (0 : Int32) (0 : Int32)
theorem kX6_bits {R : Room} {s : State} {args : Array Value} {own : String} {idx mc ms : Nat} {rm : Room} (hts : ∀ w ∈ lw_all, w.before args s = true) (hl : Cond.methodLink own idx yX6_bits ∈ lw_all) (hrc : rm.cells = mc) (hrs : rm.slots = ms) (hR : rm.frames + 1 ≤ R.frames ∧ 8 + (3 + 11) + rm.locals ≤ R.locals) : CallB R s args own idx yX6_bits cX6_bits 3 (some .int) (ws_ yX6_bits cX6_bits 3 (some .int)) rm mc ms 1 ∧ (Cond.static yX6_bits).before args s = true :=
  va_cwS 1 hts (lw_S hl q2149 q115 q2150) rfl hrc hrs (by decide +kernel) hR
set_option maxHeartbeats 4000000 in
set_option maxRecDepth 100000 in
theorem mtX6_bits (l : Launch) (D : va_G) (Z : zZ) {tys : List (ClassId × FieldType)} (hOK : zOK D zCl tys Z) (p0 : Int32) (r : Int32) (hrun : fX6_bits p0 = some r) :
    CtR l yX6_bits cX6_bits 3 (some .int) rX6_bits Z D zCl [] [.int p0] (some (.int r)) := by
  refine CtR.of (by decide) (Nat.le_of_ble_eq_true rfl) ?_
  intro p e s m args below meth c hE hP hz ls hl
  obtain ⟨hx, hb, hr, hml, hown, hts, hlocks, hname⟩ := hE
  have hown : s.vm.findClass RX6 = some m.cls := hown
  have hK := hOK.1 _ _ _ hz
  have hl : lv_has ls 3 [(0, .int p0)] := hl
  unfold fX6_bits at hrun
  refine lv_iconst (v := (0 : Int32)) hx hb dX6_bits_0 (by decide) ?_
  refine lv_istore_n (lv' := [(1, .int (0 : Int32)), (0, .int p0)]) hx hb dX6_bits_1 rfl hl (by decide) rfl (fun ls hl => ?_)
  refine lv_iconst (v := (0 : Int32)) hx hb dX6_bits_2 (by decide) ?_
  refine lv_istore_n (lv' := [(2, .int (0 : Int32)), (1, .int (0 : Int32)), (0, .int p0)]) hx hb dX6_bits_3 rfl hl (by decide) rfl (fun ls hl => ?_)
  have hL_1 : ∀ n : Nat, ∀ (x1_2 : Int32) (x2_3 : Int32), ∀ ls : Array Slot, lv_has ls 3 [(0, .int p0), (1, .int x1_2), (2, .int x2_3)] → fX6_bits_L4 p0 n x1_2 x2_3 = some r → W p l e rX6_bits s m args below meth c s.heap [] 0 0 (MQ below (QRr (some (.int r))) args s 0 0 (fun _ => False)) (F0 m 4 ls []) := by
    intro n
    induction n with
    | zero =>
      intro x1_2 x2_3 ls hl hrun
      exact nomatch hrun
    | succ n ih =>
      intro x1_2 x2_3 ls hl hrun
      rw [fX6_bits_L4.eq_2] at hrun
      refine lv_iload_n hx hb dX6_bits_4 rfl (lv_at hl 2 rfl) ?_
      refine lv_bipush (v := (31 : Int32)) hx hb dX6_bits_5 (by decide) ?_
      refine lv_icmp_ge (tgt := 24) hx hb dX6_bits_7 (by decide) (fun c_4 => ?_) (fun c_4 => ?_)
      · have hrun := mif_p c_4 hrun
        refine lv_iload_n hx hb dX6_bits_24 rfl (lv_at hl 1 rfl) ?_
        cases hrun
        exact retR_i hx hb hr hlocks rfl dX6_bits_25
      have hrun := mif_n c_4 hrun
      refine lv_iload_n hx hb dX6_bits_10 rfl (lv_at hl 1 rfl) ?_
      refine lv_iload_n hx hb dX6_bits_11 rfl (lv_at hl 0 rfl) ?_
      refine lv_iload_n hx hb dX6_bits_12 rfl (lv_at hl 2 rfl) ?_
      refine lv_ishr hx hb dX6_bits_13 ?_
      refine lv_iconst (v := (1 : Int32)) hx hb dX6_bits_14 (by decide) ?_
      refine lv_iand hx hb dX6_bits_15 ?_
      refine lv_iadd hx hb dX6_bits_16 ?_
      refine lv_istore_n (lv' := [(1, .int (x1_2 + ((p0 >>> (x2_3 &&& (31 : Int32))) &&& (1 : Int32)))), (0, .int p0), (2, .int x2_3)]) hx hb dX6_bits_17 rfl hl (by decide) rfl (fun ls hl => ?_)
      refine lv_iinc (v := (x2_3 + (1 : Int32))) (lv' := [(2, .int (x2_3 + (1 : Int32))), (1, .int (x1_2 + ((p0 >>> (x2_3 &&& (31 : Int32))) &&& (1 : Int32)))), (0, .int p0)]) hx hb dX6_bits_18 hl (k := 2) rfl rfl (by decide) rfl (fun ls hl => ?_)
      refine lv_goto (tgt := 4) hx hb dX6_bits_21 (by decide) ?_
      exact ih (x1_2 + ((p0 >>> (x2_3 &&& (31 : Int32))) &&& (1 : Int32))) (x2_3 + (1 : Int32)) ls (lv_sub hl [2, 1, 0] rfl) hrun
  exact hL_1 mFU (0 : Int32) (0 : Int32) ls (lv_sub hl [2, 1, 0] rfl) hrun
def rX6_isSaturday : Room := { frames := 0, cells := 0, slots := 0, locals := 0 }
noncomputable def fX6_isSaturday (t : Tw) (p1 : Int32) (p2 : Int32) : Option (Bool) :=
  mck ((12 : Int32) + p1) 704 <|
  if (mrm (p2 + ((tw_m t) (Int32.toNatClampNeg ((12 : Int32) + p1)))) (7 : Int32)) = (6 : Int32) then
    some true
  else
    some false
theorem kX6_isSaturday {R : Room} {s : State} {args : Array Value} {own : String} {idx mc ms : Nat} {rm : Room} (hts : ∀ w ∈ lw_all, w.before args s = true) (hl : Cond.methodLink own idx yX6_isSaturday ∈ lw_all) (hrc : rm.cells = mc) (hrs : rm.slots = ms) (hR : rm.frames + 1 ≤ R.frames ∧ 8 + (3 + 11) + rm.locals ≤ R.locals) : CallW R s args own RX6 idx yX6_isSaturday cX6_isSaturday 3 (some .boolean) (ws_ yX6_isSaturday cX6_isSaturday 3 (some .boolean)) rm mc ms 2 :=
  cwV 2 hts (lw_V hl q2153 qs77 q115 q2154) rfl hrc hrs (by decide +kernel) hR
set_option maxHeartbeats 4000000 in
set_option maxRecDepth 100000 in
theorem mtX6_isSaturday (l : Launch) (D : va_G) (k : Nat → ClassId) (a : Nat → Nat) (Z : zZ) (hOK : zOK D zCl (zTys k) Z) (t : Tw) (p1 : Int32) (p2 : Int32) (r : Bool) (hrun : fX6_isSaturday t p1 p2 = some r) :
    CtR l yX6_isSaturday cX6_isSaturday 3 (some .boolean) rX6_isSaturday Z D zCl (cT k a t) [.ref (a 0), .int p1, .int p2] (some (.int (bz r))) := by
  refine CtR.of (by decide) (Nat.le_of_ble_eq_true rfl) ?_
  intro p e s m args below meth c hE hP hz ls hl
  obtain ⟨hx, hb, hr, hml, hown, hts, hlocks, hname⟩ := hE
  have hown : s.vm.findClass RX6 = some m.cls := hown
  have hK := hOK.1 _ _ _ hz
  have hl : lv_has ls 3 [(0, .ref (a 0)), (1, .int p1), (2, .int p2)] := hl
  unfold fX6_isSaturday at hrun
  refine lv_iload_n hx hb dX6_isSaturday_0 rfl (lv_at hl 2 rfl) ?_
  refine lv_aload_n hx hb dX6_isSaturday_1 rfl (lv_at hl 0 rfl) ?_
  refine va_get (ci := 0) (v := .ref (a 1)) (C := RX6) (T := TX6) (N := 22) hx hb hts in_X6 hown hK hP 0 rfl rfl 1 (by decide) (hts _ q1903) (fun _ h9 => h9) rfl dX6_isSaturday_2 ?_
  refine lv_bipush (v := (12 : Int32)) hx hb dX6_isSaturday_5 (by decide) ?_
  refine lv_iload_n hx hb dX6_isSaturday_7 rfl (lv_at hl 1 rfl) ?_
  refine lv_iadd hx hb dX6_isSaturday_8 ?_
  obtain ⟨hb_1, hrun⟩ := mck_s rfl hrun
  refine va_iald hx hb hK hP 1 0 rfl rfl hb_1 dX6_isSaturday_9 ?_
  refine lv_iadd hx hb dX6_isSaturday_10 ?_
  refine lv_bipush (v := (7 : Int32)) hx hb dX6_isSaturday_11 (by decide) ?_
  refine lv_irem hx hb dX6_isSaturday_13 (by decide) ?_
  refine lv_bipush (v := (6 : Int32)) hx hb dX6_isSaturday_14 (by decide) ?_
  refine lv_icmp_ne (tgt := 23) hx hb dX6_isSaturday_16 (by decide) (fun c_2 => ?_) (fun c_2 => ?_)
  · have hrun := mif_n c_2 hrun
    refine lv_iconst (v := (0 : Int32)) hx hb dX6_isSaturday_23 (by decide) ?_
    cases hrun
    exact retR_z (v := false) hx hb hr hlocks rfl dX6_isSaturday_24
  have hrun := mif_p c_2 hrun
  refine lv_iconst (v := (1 : Int32)) hx hb dX6_isSaturday_19 (by decide) ?_
  refine lv_goto (tgt := 24) hx hb dX6_isSaturday_20 (by decide) ?_
  cases hrun
  exact retR_z (v := true) hx hb hr hlocks rfl dX6_isSaturday_24
def rX6_isHere : Room := { frames := 1, cells := 0, slots := 0, locals := 22 }
noncomputable def fX6_isHere (t : Tw) (p1 : Int32) : Option (Bool) :=
  mob (fX6_of t p1 (4 : Int32)) fun r_2 =>
  if r_2 = (1 : Int32) then
    some true
  else
    some false
theorem kX6_isHere {R : Room} {s : State} {args : Array Value} {own : String} {idx mc ms : Nat} {rm : Room} (hts : ∀ w ∈ lw_all, w.before args s = true) (hl : Cond.methodLink own idx yX6_isHere ∈ lw_all) (hrc : rm.cells = mc) (hrs : rm.slots = ms) (hR : rm.frames + 1 ≤ R.frames ∧ 8 + (2 + 11) + rm.locals ≤ R.locals) : CallW R s args own RX6 idx yX6_isHere cX6_isHere 2 (some .boolean) (ws_ yX6_isHere cX6_isHere 2 (some .boolean)) rm mc ms 1 :=
  cwV 1 hts (lw_V hl q2157 qs78 q115 q2158) rfl hrc hrs (by decide +kernel) hR
set_option maxHeartbeats 4000000 in
set_option maxRecDepth 100000 in
theorem mtX6_isHere (l : Launch) (D : va_G) (k : Nat → ClassId) (a : Nat → Nat) (Z : zZ) (hOK : zOK D zCl (zTys k) Z) (t : Tw) (p1 : Int32) (r : Bool) (hrun : fX6_isHere t p1 = some r) :
    CtR l yX6_isHere cX6_isHere 2 (some .boolean) rX6_isHere Z D zCl (cT k a t) [.ref (a 0), .int p1] (some (.int (bz r))) := by
  refine CtR.of (by decide) (Nat.le_of_ble_eq_true rfl) ?_
  intro p e s m args below meth c hE hP hz ls hl
  obtain ⟨hx, hb, hr, hml, hown, hts, hlocks, hname⟩ := hE
  have hown : s.vm.findClass RX6 = some m.cls := hown
  have hK := hOK.1 _ _ _ hz
  have hl : lv_has ls 2 [(0, .ref (a 0)), (1, .int p1)] := hl
  unfold fX6_isHere at hrun
  refine lv_aload_n hx hb dX6_isHere_0 rfl (lv_at hl 0 rfl) ?_
  refine lv_iload_n hx hb dX6_isHere_1 rfl (lv_at hl 1 rfl) ?_
  refine lv_iconst (v := (4 : Int32)) hx hb dX6_isHere_2 (by decide) ?_
  obtain ⟨r_2, hc_1, hrun⟩ := mob_s rfl hrun
  refine cRV (As := [.int p1, .int (4 : Int32)]) (ci := 0) ⟨hx, hb, hml, hown, hts⟩ hOK hz va_S.rf hP (mtX6_of l D k a Z hOK _ _ _ _ hc_1) (kX6_of hts q2136 rfl rfl ⟨Nat.le_of_ble_eq_true rfl, Nat.le_of_ble_eq_true rfl⟩) 0 rfl rfl rfl hl.1 rfl (lv_room (Nat.le_of_ble_eq_true rfl)) ⟨Nat.le_of_ble_eq_true rfl, Nat.le_of_ble_eq_true rfl⟩ dX6_isHere_3 ?_
  refine lv_iconst (v := (1 : Int32)) hx hb dX6_isHere_6 (by decide) ?_
  refine lv_icmp_ne (tgt := 14) hx hb dX6_isHere_7 (by decide) (fun c_3 => ?_) (fun c_3 => ?_)
  · have hrun := mif_n c_3 hrun
    refine lv_iconst (v := (0 : Int32)) hx hb dX6_isHere_14 (by decide) ?_
    cases hrun
    exact retR_z (v := false) hx hb hr hlocks rfl dX6_isHere_15
  have hrun := mif_p c_3 hrun
  refine lv_iconst (v := (1 : Int32)) hx hb dX6_isHere_10 (by decide) ?_
  refine lv_goto (tgt := 15) hx hb dX6_isHere_11 (by decide) ?_
  cases hrun
  exact retR_z (v := true) hx hb hr hlocks rfl dX6_isHere_15
def rX6_doubts : Room := { frames := 2, cells := 0, slots := 0, locals := 43 }
noncomputable def fX6_doubts_L4 (t : Tw) : Nat → Int32 → Int32 → Option (Int32)
  | 0, _, _ => none
  | n + 1, x1_2, x2_3 =>
    if ((tw_m t) 3) ≤ x2_3 then
      some x1_2
    else
      mob (fX6_isHere t x2_3) fun r_6 =>
      if r_6 = true then
        mob (fX6_of t x2_3 (2 : Int32)) fun r_9 =>
        fX6_doubts_L4 t n (x1_2 + r_9) (x2_3 + (1 : Int32))
      else
        fX6_doubts_L4 t n (x1_2 + (0 : Int32)) (x2_3 + (1 : Int32))
noncomputable def fX6_doubts (t : Tw) : Option (Int32) :=
  fX6_doubts_L4 t mFU (0 : Int32) (0 : Int32)
theorem kX6_doubts {R : Room} {s : State} {args : Array Value} {own : String} {idx mc ms : Nat} {rm : Room} (hts : ∀ w ∈ lw_all, w.before args s = true) (hl : Cond.methodLink own idx yX6_doubts ∈ lw_all) (hrc : rm.cells = mc) (hrs : rm.slots = ms) (hR : rm.frames + 1 ≤ R.frames ∧ 8 + (3 + 11) + rm.locals ≤ R.locals) : CallW R s args own RX6 idx yX6_doubts cX6_doubts 3 (some .int) (ws_ yX6_doubts cX6_doubts 3 (some .int)) rm mc ms 0 :=
  cwV 0 hts (lw_V hl q2161 qs79 q115 q2162) rfl hrc hrs (by decide +kernel) hR
set_option maxHeartbeats 4000000 in
set_option maxRecDepth 100000 in
theorem mtX6_doubts (l : Launch) (D : va_G) (k : Nat → ClassId) (a : Nat → Nat) (Z : zZ) (hOK : zOK D zCl (zTys k) Z) (t : Tw) (r : Int32) (hrun : fX6_doubts t = some r) :
    CtR l yX6_doubts cX6_doubts 3 (some .int) rX6_doubts Z D zCl (cT k a t) [.ref (a 0)] (some (.int r)) := by
  refine CtR.of (by decide) (Nat.le_of_ble_eq_true rfl) ?_
  intro p e s m args below meth c hE hP hz ls hl
  obtain ⟨hx, hb, hr, hml, hown, hts, hlocks, hname⟩ := hE
  have hown : s.vm.findClass RX6 = some m.cls := hown
  have hK := hOK.1 _ _ _ hz
  have hl : lv_has ls 3 [(0, .ref (a 0))] := hl
  unfold fX6_doubts at hrun
  refine lv_iconst (v := (0 : Int32)) hx hb dX6_doubts_0 (by decide) ?_
  refine lv_istore_n (lv' := [(1, .int (0 : Int32)), (0, .ref (a 0))]) hx hb dX6_doubts_1 rfl hl (by decide) rfl (fun ls hl => ?_)
  refine lv_iconst (v := (0 : Int32)) hx hb dX6_doubts_2 (by decide) ?_
  refine lv_istore_n (lv' := [(2, .int (0 : Int32)), (1, .int (0 : Int32)), (0, .ref (a 0))]) hx hb dX6_doubts_3 rfl hl (by decide) rfl (fun ls hl => ?_)
  have hL_1 : ∀ n : Nat, ∀ (x1_2 : Int32) (x2_3 : Int32), ∀ ls : Array Slot, lv_has ls 3 [(0, .ref (a 0)), (1, .int x1_2), (2, .int x2_3)] → fX6_doubts_L4 t n x1_2 x2_3 = some r → W p l e rX6_doubts s m args below meth c s.heap [] 0 0 (MQ below (QRr (some (.int r))) args s 0 0 (fun _ => False)) (F0 m 4 ls []) := by
    intro n
    induction n with
    | zero =>
      intro x1_2 x2_3 ls hl hrun
      exact nomatch hrun
    | succ n ih =>
      intro x1_2 x2_3 ls hl hrun
      rw [fX6_doubts_L4.eq_2] at hrun
      refine lv_iload_n hx hb dX6_doubts_4 rfl (lv_at hl 2 rfl) ?_
      refine lv_aload_n hx hb dX6_doubts_5 rfl (lv_at hl 0 rfl) ?_
      refine va_get (ci := 0) (v := .ref (a 1)) (C := RX6) (T := TX6) (N := 22) hx hb hts in_X6 hown hK hP 0 rfl rfl 1 (by decide) (hts _ q1903) (fun _ h9 => h9) rfl dX6_doubts_6 ?_
      refine lv_iconst (v := (3 : Int32)) hx hb dX6_doubts_9 (by decide) ?_
      refine va_ialdk (k := 3) hx hb hK hP 1 0 rfl rfl rfl (show ¬ _ from by decide) dX6_doubts_10 ?_
      refine lv_icmp_ge (tgt := 41) hx hb dX6_doubts_11 (by decide) (fun c_4 => ?_) (fun c_4 => ?_)
      · have hrun := mif_p c_4 hrun
        refine lv_iload_n hx hb dX6_doubts_41 rfl (lv_at hl 1 rfl) ?_
        cases hrun
        exact retR_i hx hb hr hlocks rfl dX6_doubts_42
      have hrun := mif_n c_4 hrun
      refine lv_iload_n hx hb dX6_doubts_14 rfl (lv_at hl 1 rfl) ?_
      refine lv_aload_n hx hb dX6_doubts_15 rfl (lv_at hl 0 rfl) ?_
      refine lv_iload_n hx hb dX6_doubts_16 rfl (lv_at hl 2 rfl) ?_
      obtain ⟨r_6, hc_5, hrun⟩ := mob_s rfl hrun
      refine cRV (As := [.int x2_3]) (ci := 0) ⟨hx, hb, hml, hown, hts⟩ hOK hz va_S.rf hP (mtX6_isHere l D k a Z hOK _ _ _ hc_5) (kX6_isHere hts q2155 rfl rfl ⟨Nat.le_of_ble_eq_true rfl, Nat.le_of_ble_eq_true rfl⟩) 0 rfl rfl rfl hl.1 rfl (lv_room (Nat.le_of_ble_eq_true rfl)) ⟨Nat.le_of_ble_eq_true rfl, Nat.le_of_ble_eq_true rfl⟩ dX6_doubts_17 ?_
      refine lv_if_eq (tgt := 32) hx hb dX6_doubts_20 (by decide) (fun c_7 => ?_) (fun c_7 => ?_)
      · have hrun := mif_n (bz_z c_7) hrun
        refine lv_iconst (v := (0 : Int32)) hx hb dX6_doubts_32 (by decide) ?_
        refine lv_iadd hx hb dX6_doubts_33 ?_
        refine lv_istore_n (lv' := [(1, .int (x1_2 + (0 : Int32))), (0, .ref (a 0)), (2, .int x2_3)]) hx hb dX6_doubts_34 rfl hl (by decide) rfl (fun ls hl => ?_)
        refine lv_iinc (v := (x2_3 + (1 : Int32))) (lv' := [(2, .int (x2_3 + (1 : Int32))), (1, .int (x1_2 + (0 : Int32))), (0, .ref (a 0))]) hx hb dX6_doubts_35 hl (k := 2) rfl rfl (by decide) rfl (fun ls hl => ?_)
        refine lv_goto (tgt := 4) hx hb dX6_doubts_38 (by decide) ?_
        exact ih (x1_2 + (0 : Int32)) (x2_3 + (1 : Int32)) ls (lv_sub hl [2, 1, 0] rfl) hrun
      have hrun := mif_p (bz_nz c_7) hrun
      refine lv_aload_n hx hb dX6_doubts_23 rfl (lv_at hl 0 rfl) ?_
      refine lv_iload_n hx hb dX6_doubts_24 rfl (lv_at hl 2 rfl) ?_
      refine lv_iconst (v := (2 : Int32)) hx hb dX6_doubts_25 (by decide) ?_
      obtain ⟨r_9, hc_8, hrun⟩ := mob_s rfl hrun
      refine cRV (As := [.int x2_3, .int (2 : Int32)]) (ci := 0) ⟨hx, hb, hml, hown, hts⟩ hOK hz va_S.rf hP (mtX6_of l D k a Z hOK _ _ _ _ hc_8) (kX6_of hts q2136 rfl rfl ⟨Nat.le_of_ble_eq_true rfl, Nat.le_of_ble_eq_true rfl⟩) 0 rfl rfl rfl hl.1 rfl (lv_room (Nat.le_of_ble_eq_true rfl)) ⟨Nat.le_of_ble_eq_true rfl, Nat.le_of_ble_eq_true rfl⟩ dX6_doubts_26 ?_
      refine lv_goto (tgt := 33) hx hb dX6_doubts_29 (by decide) ?_
      refine lv_iadd hx hb dX6_doubts_33 ?_
      refine lv_istore_n (lv' := [(1, .int (x1_2 + r_9)), (0, .ref (a 0)), (2, .int x2_3)]) hx hb dX6_doubts_34 rfl hl (by decide) rfl (fun ls hl => ?_)
      refine lv_iinc (v := (x2_3 + (1 : Int32))) (lv' := [(2, .int (x2_3 + (1 : Int32))), (1, .int (x1_2 + r_9)), (0, .ref (a 0))]) hx hb dX6_doubts_35 hl (k := 2) rfl rfl (by decide) rfl (fun ls hl => ?_)
      refine lv_goto (tgt := 4) hx hb dX6_doubts_38 (by decide) ?_
      exact ih (x1_2 + r_9) (x2_3 + (1 : Int32)) ls (lv_sub hl [2, 1, 0] rfl) hrun
  exact hL_1 mFU (0 : Int32) (0 : Int32) ls (lv_sub hl [2, 1, 0] rfl) hrun
def rX6_isOf : Room := { frames := 0, cells := 0, slots := 0, locals := 0 }
noncomputable def fX6_isOf (p0 : Int32) (p1 : Int32) : Option (Bool) :=
  if ((p0 >>> (p1 &&& (31 : Int32))) &&& (1 : Int32)) = (1 : Int32) then
    some true
  else
    some false
theorem kX6_isOf {R : Room} {s : State} {args : Array Value} {own : String} {idx mc ms : Nat} {rm : Room} (hts : ∀ w ∈ lw_all, w.before args s = true) (hl : Cond.methodLink own idx yX6_isOf ∈ lw_all) (hrc : rm.cells = mc) (hrs : rm.slots = ms) (hR : rm.frames + 1 ≤ R.frames ∧ 8 + (2 + 11) + rm.locals ≤ R.locals) : CallB R s args own idx yX6_isOf cX6_isOf 2 (some .boolean) (ws_ yX6_isOf cX6_isOf 2 (some .boolean)) rm mc ms 2 ∧ (Cond.static yX6_isOf).before args s = true :=
  va_cwS 2 hts (lw_S hl q2176 q115 q2177) rfl hrc hrs (by decide +kernel) hR
set_option maxHeartbeats 4000000 in
set_option maxRecDepth 100000 in
theorem mtX6_isOf (l : Launch) (D : va_G) (Z : zZ) {tys : List (ClassId × FieldType)} (hOK : zOK D zCl tys Z) (p0 : Int32) (p1 : Int32) (r : Bool) (hrun : fX6_isOf p0 p1 = some r) :
    CtR l yX6_isOf cX6_isOf 2 (some .boolean) rX6_isOf Z D zCl [] [.int p0, .int p1] (some (.int (bz r))) := by
  refine CtR.of (by decide) (Nat.le_of_ble_eq_true rfl) ?_
  intro p e s m args below meth c hE hP hz ls hl
  obtain ⟨hx, hb, hr, hml, hown, hts, hlocks, hname⟩ := hE
  have hown : s.vm.findClass RX6 = some m.cls := hown
  have hK := hOK.1 _ _ _ hz
  have hl : lv_has ls 2 [(0, .int p0), (1, .int p1)] := hl
  unfold fX6_isOf at hrun
  refine lv_iload_n hx hb dX6_isOf_0 rfl (lv_at hl 0 rfl) ?_
  refine lv_iload_n hx hb dX6_isOf_1 rfl (lv_at hl 1 rfl) ?_
  refine lv_ishr hx hb dX6_isOf_2 ?_
  refine lv_iconst (v := (1 : Int32)) hx hb dX6_isOf_3 (by decide) ?_
  refine lv_iand hx hb dX6_isOf_4 ?_
  refine lv_iconst (v := (1 : Int32)) hx hb dX6_isOf_5 (by decide) ?_
  refine lv_icmp_ne (tgt := 13) hx hb dX6_isOf_6 (by decide) (fun c_1 => ?_) (fun c_1 => ?_)
  · have hrun := mif_n c_1 hrun
    refine lv_iconst (v := (0 : Int32)) hx hb dX6_isOf_13 (by decide) ?_
    cases hrun
    exact retR_z (v := false) hx hb hr hlocks rfl dX6_isOf_14
  have hrun := mif_p c_1 hrun
  refine lv_iconst (v := (1 : Int32)) hx hb dX6_isOf_9 (by decide) ?_
  refine lv_goto (tgt := 14) hx hb dX6_isOf_10 (by decide) ?_
  cases hrun
  exact retR_z (v := true) hx hb hr hlocks rfl dX6_isOf_14
def rX6_isRoom : Room := { frames := 1, cells := 0, slots := 0, locals := 22 }
noncomputable def fX6_isRoom (p0 : Int32) : Option (Bool) :=
  mob (fX6_isIn p0 (0 : Int32) (7 : Int32)) fun r_2 =>
  some r_2
theorem kX6_isRoom {R : Room} {s : State} {args : Array Value} {own : String} {idx mc ms : Nat} {rm : Room} (hts : ∀ w ∈ lw_all, w.before args s = true) (hl : Cond.methodLink own idx yX6_isRoom ∈ lw_all) (hrc : rm.cells = mc) (hrs : rm.slots = ms) (hR : rm.frames + 1 ≤ R.frames ∧ 8 + (1 + 11) + rm.locals ≤ R.locals) : CallB R s args own idx yX6_isRoom cX6_isRoom 1 (some .boolean) (ws_ yX6_isRoom cX6_isRoom 1 (some .boolean)) rm mc ms 1 ∧ (Cond.static yX6_isRoom).before args s = true :=
  va_cwS 1 hts (lw_S hl q2183 q115 q2184) rfl hrc hrs (by decide +kernel) hR
set_option maxHeartbeats 4000000 in
set_option maxRecDepth 100000 in
theorem mtX6_isRoom (l : Launch) (D : va_G) (Z : zZ) {tys : List (ClassId × FieldType)} (hOK : zOK D zCl tys Z) (p0 : Int32) (r : Bool) (hrun : fX6_isRoom p0 = some r) :
    CtR l yX6_isRoom cX6_isRoom 1 (some .boolean) rX6_isRoom Z D zCl [] [.int p0] (some (.int (bz r))) := by
  refine CtR.of (by decide) (Nat.le_of_ble_eq_true rfl) ?_
  intro p e s m args below meth c hE hP hz ls hl
  obtain ⟨hx, hb, hr, hml, hown, hts, hlocks, hname⟩ := hE
  have hown : s.vm.findClass RX6 = some m.cls := hown
  have hK := hOK.1 _ _ _ hz
  have hl : lv_has ls 1 [(0, .int p0)] := hl
  unfold fX6_isRoom at hrun
  refine lv_iload_n hx hb dX6_isRoom_0 rfl (lv_at hl 0 rfl) ?_
  refine lv_iconst (v := (0 : Int32)) hx hb dX6_isRoom_1 (by decide) ?_
  refine lv_bipush (v := (7 : Int32)) hx hb dX6_isRoom_2 (by decide) ?_
  obtain ⟨r_2, hc_1, hrun⟩ := mob_s rfl hrun
  refine cRS (ws := []) (As := [.int p0, .int (0 : Int32), .int (7 : Int32)]) ⟨hx, hb, hml, hown, hts⟩ hOK hz va_S.rf zP0 (mtX6_isIn l D Z hOK _ _ _ _ hc_1) (kX6_isIn hts q1981 rfl rfl ⟨Nat.le_of_ble_eq_true rfl, Nat.le_of_ble_eq_true rfl⟩) rfl hl.1 rfl (lv_room (Nat.le_of_ble_eq_true rfl)) ⟨Nat.le_of_ble_eq_true rfl, Nat.le_of_ble_eq_true rfl⟩ dX6_isRoom_4 ?_
  cases hrun
  exact retR_z hx hb hr hlocks rfl dX6_isRoom_7
def rX6_guestsIn : Room := { frames := 2, cells := 0, slots := 0, locals := 43 }
noncomputable def fX6_guestsIn_L4 (t : Tw) (p1 : Int32) : Nat → Int32 → Int32 → Option (Int32)
  | 0, _, _ => none
  | n + 1, x2_2, x3_3 =>
    if ((tw_m t) 3) ≤ x3_3 then
      some x2_2
    else
      mob (fX6_isHere t x3_3) fun r_6 =>
      if r_6 = true then
        mob (fX6_of t x3_3 (0 : Int32)) fun r_9 =>
        if r_9 = p1 then
          fX6_guestsIn_L4 t p1 n (x2_2 ||| ((1 : Int32) <<< (x3_3 &&& (31 : Int32)))) (x3_3 + (1 : Int32))
        else
          fX6_guestsIn_L4 t p1 n (x2_2 ||| (0 : Int32)) (x3_3 + (1 : Int32))
      else
        fX6_guestsIn_L4 t p1 n (x2_2 ||| (0 : Int32)) (x3_3 + (1 : Int32))
noncomputable def fX6_guestsIn (t : Tw) (p1 : Int32) : Option (Int32) :=
  fX6_guestsIn_L4 t p1 mFU (0 : Int32) (0 : Int32)
theorem kX6_guestsIn {R : Room} {s : State} {args : Array Value} {own : String} {idx mc ms : Nat} {rm : Room} (hts : ∀ w ∈ lw_all, w.before args s = true) (hl : Cond.methodLink own idx yX6_guestsIn ∈ lw_all) (hrc : rm.cells = mc) (hrs : rm.slots = ms) (hR : rm.frames + 1 ≤ R.frames ∧ 8 + (4 + 11) + rm.locals ≤ R.locals) : CallW R s args own RX6 idx yX6_guestsIn cX6_guestsIn 4 (some .int) (ws_ yX6_guestsIn cX6_guestsIn 4 (some .int)) rm mc ms 1 :=
  cwV 1 hts (lw_V hl q2191 qs84 q115 q2192) rfl hrc hrs (by decide +kernel) hR
set_option maxHeartbeats 4000000 in
set_option maxRecDepth 100000 in
theorem mtX6_guestsIn (l : Launch) (D : va_G) (k : Nat → ClassId) (a : Nat → Nat) (Z : zZ) (hOK : zOK D zCl (zTys k) Z) (t : Tw) (p1 : Int32) (r : Int32) (hrun : fX6_guestsIn t p1 = some r) :
    CtR l yX6_guestsIn cX6_guestsIn 4 (some .int) rX6_guestsIn Z D zCl (cT k a t) [.ref (a 0), .int p1] (some (.int r)) := by
  refine CtR.of (by decide) (Nat.le_of_ble_eq_true rfl) ?_
  intro p e s m args below meth c hE hP hz ls hl
  obtain ⟨hx, hb, hr, hml, hown, hts, hlocks, hname⟩ := hE
  have hown : s.vm.findClass RX6 = some m.cls := hown
  have hK := hOK.1 _ _ _ hz
  have hl : lv_has ls 4 [(0, .ref (a 0)), (1, .int p1)] := hl
  unfold fX6_guestsIn at hrun
  refine lv_iconst (v := (0 : Int32)) hx hb dX6_guestsIn_0 (by decide) ?_
  refine lv_istore_n (lv' := [(2, .int (0 : Int32)), (0, .ref (a 0)), (1, .int p1)]) hx hb dX6_guestsIn_1 rfl hl (by decide) rfl (fun ls hl => ?_)
  refine lv_iconst (v := (0 : Int32)) hx hb dX6_guestsIn_2 (by decide) ?_
  refine lv_istore_n (lv' := [(3, .int (0 : Int32)), (2, .int (0 : Int32)), (0, .ref (a 0)), (1, .int p1)]) hx hb dX6_guestsIn_3 rfl hl (by decide) rfl (fun ls hl => ?_)
  have hL_1 : ∀ n : Nat, ∀ (x2_2 : Int32) (x3_3 : Int32), ∀ ls : Array Slot, lv_has ls 4 [(0, .ref (a 0)), (1, .int p1), (2, .int x2_2), (3, .int x3_3)] → fX6_guestsIn_L4 t p1 n x2_2 x3_3 = some r → W p l e rX6_guestsIn s m args below meth c s.heap [] 0 0 (MQ below (QRr (some (.int r))) args s 0 0 (fun _ => False)) (F0 m 4 ls []) := by
    intro n
    induction n with
    | zero =>
      intro x2_2 x3_3 ls hl hrun
      exact nomatch hrun
    | succ n ih =>
      intro x2_2 x3_3 ls hl hrun
      rw [fX6_guestsIn_L4.eq_2] at hrun
      refine lv_iload_n hx hb dX6_guestsIn_4 rfl (lv_at hl 3 rfl) ?_
      refine lv_aload_n hx hb dX6_guestsIn_5 rfl (lv_at hl 0 rfl) ?_
      refine va_get (ci := 0) (v := .ref (a 1)) (C := RX6) (T := TX6) (N := 22) hx hb hts in_X6 hown hK hP 0 rfl rfl 1 (by decide) (hts _ q1903) (fun _ h9 => h9) rfl dX6_guestsIn_6 ?_
      refine lv_iconst (v := (3 : Int32)) hx hb dX6_guestsIn_9 (by decide) ?_
      refine va_ialdk (k := 3) hx hb hK hP 1 0 rfl rfl rfl (show ¬ _ from by decide) dX6_guestsIn_10 ?_
      refine lv_icmp_ge (tgt := 48) hx hb dX6_guestsIn_11 (by decide) (fun c_4 => ?_) (fun c_4 => ?_)
      · have hrun := mif_p c_4 hrun
        refine lv_iload_n hx hb dX6_guestsIn_48 rfl (lv_at hl 2 rfl) ?_
        cases hrun
        exact retR_i hx hb hr hlocks rfl dX6_guestsIn_49
      have hrun := mif_n c_4 hrun
      refine lv_iload_n hx hb dX6_guestsIn_14 rfl (lv_at hl 2 rfl) ?_
      refine lv_aload_n hx hb dX6_guestsIn_15 rfl (lv_at hl 0 rfl) ?_
      refine lv_iload_n hx hb dX6_guestsIn_16 rfl (lv_at hl 3 rfl) ?_
      obtain ⟨r_6, hc_5, hrun⟩ := mob_s rfl hrun
      refine cRV (As := [.int x3_3]) (ci := 0) ⟨hx, hb, hml, hown, hts⟩ hOK hz va_S.rf hP (mtX6_isHere l D k a Z hOK _ _ _ hc_5) (kX6_isHere hts q2155 rfl rfl ⟨Nat.le_of_ble_eq_true rfl, Nat.le_of_ble_eq_true rfl⟩) 0 rfl rfl rfl hl.1 rfl (lv_room (Nat.le_of_ble_eq_true rfl)) ⟨Nat.le_of_ble_eq_true rfl, Nat.le_of_ble_eq_true rfl⟩ dX6_guestsIn_17 ?_
      refine lv_if_eq (tgt := 39) hx hb dX6_guestsIn_20 (by decide) (fun c_7 => ?_) (fun c_7 => ?_)
      · have hrun := mif_n (bz_z c_7) hrun
        refine lv_iconst (v := (0 : Int32)) hx hb dX6_guestsIn_39 (by decide) ?_
        refine lv_ior hx hb dX6_guestsIn_40 ?_
        refine lv_istore_n (lv' := [(2, .int (x2_2 ||| (0 : Int32))), (0, .ref (a 0)), (1, .int p1), (3, .int x3_3)]) hx hb dX6_guestsIn_41 rfl hl (by decide) rfl (fun ls hl => ?_)
        refine lv_iinc (v := (x3_3 + (1 : Int32))) (lv' := [(3, .int (x3_3 + (1 : Int32))), (2, .int (x2_2 ||| (0 : Int32))), (0, .ref (a 0)), (1, .int p1)]) hx hb dX6_guestsIn_42 hl (k := 3) rfl rfl (by decide) rfl (fun ls hl => ?_)
        refine lv_goto (tgt := 4) hx hb dX6_guestsIn_45 (by decide) ?_
        exact ih (x2_2 ||| (0 : Int32)) (x3_3 + (1 : Int32)) ls (lv_sub hl [2, 3, 1, 0] rfl) hrun
      have hrun := mif_p (bz_nz c_7) hrun
      refine lv_aload_n hx hb dX6_guestsIn_23 rfl (lv_at hl 0 rfl) ?_
      refine lv_iload_n hx hb dX6_guestsIn_24 rfl (lv_at hl 3 rfl) ?_
      refine lv_iconst (v := (0 : Int32)) hx hb dX6_guestsIn_25 (by decide) ?_
      obtain ⟨r_9, hc_8, hrun⟩ := mob_s rfl hrun
      refine cRV (As := [.int x3_3, .int (0 : Int32)]) (ci := 0) ⟨hx, hb, hml, hown, hts⟩ hOK hz va_S.rf hP (mtX6_of l D k a Z hOK _ _ _ _ hc_8) (kX6_of hts q2136 rfl rfl ⟨Nat.le_of_ble_eq_true rfl, Nat.le_of_ble_eq_true rfl⟩) 0 rfl rfl rfl hl.1 rfl (lv_room (Nat.le_of_ble_eq_true rfl)) ⟨Nat.le_of_ble_eq_true rfl, Nat.le_of_ble_eq_true rfl⟩ dX6_guestsIn_26 ?_
      refine lv_iload_n hx hb dX6_guestsIn_29 rfl (lv_at hl 1 rfl) ?_
      refine lv_icmp_ne (tgt := 39) hx hb dX6_guestsIn_30 (by decide) (fun c_10 => ?_) (fun c_10 => ?_)
      · have hrun := mif_n c_10 hrun
        refine lv_iconst (v := (0 : Int32)) hx hb dX6_guestsIn_39 (by decide) ?_
        refine lv_ior hx hb dX6_guestsIn_40 ?_
        refine lv_istore_n (lv' := [(2, .int (x2_2 ||| (0 : Int32))), (0, .ref (a 0)), (1, .int p1), (3, .int x3_3)]) hx hb dX6_guestsIn_41 rfl hl (by decide) rfl (fun ls hl => ?_)
        refine lv_iinc (v := (x3_3 + (1 : Int32))) (lv' := [(3, .int (x3_3 + (1 : Int32))), (2, .int (x2_2 ||| (0 : Int32))), (0, .ref (a 0)), (1, .int p1)]) hx hb dX6_guestsIn_42 hl (k := 3) rfl rfl (by decide) rfl (fun ls hl => ?_)
        refine lv_goto (tgt := 4) hx hb dX6_guestsIn_45 (by decide) ?_
        exact ih (x2_2 ||| (0 : Int32)) (x3_3 + (1 : Int32)) ls (lv_sub hl [2, 3, 1, 0] rfl) hrun
      have hrun := mif_p c_10 hrun
      refine lv_iconst (v := (1 : Int32)) hx hb dX6_guestsIn_33 (by decide) ?_
      refine lv_iload_n hx hb dX6_guestsIn_34 rfl (lv_at hl 3 rfl) ?_
      refine lv_ishl hx hb dX6_guestsIn_35 ?_
      refine lv_goto (tgt := 40) hx hb dX6_guestsIn_36 (by decide) ?_
      refine lv_ior hx hb dX6_guestsIn_40 ?_
      refine lv_istore_n (lv' := [(2, .int (x2_2 ||| ((1 : Int32) <<< (x3_3 &&& (31 : Int32))))), (0, .ref (a 0)), (1, .int p1), (3, .int x3_3)]) hx hb dX6_guestsIn_41 rfl hl (by decide) rfl (fun ls hl => ?_)
      refine lv_iinc (v := (x3_3 + (1 : Int32))) (lv' := [(3, .int (x3_3 + (1 : Int32))), (2, .int (x2_2 ||| ((1 : Int32) <<< (x3_3 &&& (31 : Int32))))), (0, .ref (a 0)), (1, .int p1)]) hx hb dX6_guestsIn_42 hl (k := 3) rfl rfl (by decide) rfl (fun ls hl => ?_)
      refine lv_goto (tgt := 4) hx hb dX6_guestsIn_45 (by decide) ?_
      exact ih (x2_2 ||| ((1 : Int32) <<< (x3_3 &&& (31 : Int32)))) (x3_3 + (1 : Int32)) ls (lv_sub hl [2, 3, 1, 0] rfl) hrun
  exact hL_1 mFU (0 : Int32) (0 : Int32) ls (lv_sub hl [2, 3, 1, 0] rfl) hrun
def rX6_calendar : Room := { frames := 1, cells := 0, slots := 0, locals := 22 }
noncomputable def fX6_calendar_L52 (t_7 : Tw) (p1 : Int32) : Nat → Int32 → Option (Int32 × Tw)
  | 0, _ => none
  | n + 1, x3_13 =>
    mob (fX6_isSaturday t_7 p1 (((tw_m t_7) 10) + x3_13)) fun r_15 =>
    if r_15 = true then
      some (x3_13, t_7)
    else
      fX6_calendar_L52 t_7 p1 n (x3_13 + (1 : Int32))
noncomputable def fX6_calendar (t : Tw) (p1 : Int32) (p2 : Bool) : Option (Int32 × Tw) :=
  mob (fX6_isIn p1 (0 : Int32) (1 : Int32)) fun r_2 =>
  mjn (fun (y_5 : Bool) =>
  mlt (tw_s_thrown t (bz y_5)) fun t_7 =>
  if (0 : Int32) < (tw_thrown t_7) then
    if (tw_thrown t_7) ≤ (0 : Int32) then
      mck ((12 : Int32) + p1) 704 <|
      some (((tw_m t_7) (Int32.toNatClampNeg ((12 : Int32) + p1))), t_7)
    else
      some ((0 : Int32), t_7)
  else
    if p2 = true then
      fX6_calendar_L52 t_7 p1 mFU (0 : Int32)
    else
      if (tw_thrown t_7) ≤ (0 : Int32) then
        mck ((12 : Int32) + p1) 704 <|
        some (((tw_m t_7) (Int32.toNatClampNeg ((12 : Int32) + p1))), t_7)
      else
        some ((0 : Int32), t_7)) fun K_6 =>
  if r_2 = true then
    K_6 false
  else
    K_6 true
theorem kX6_calendar {R : Room} {s : State} {args : Array Value} {own : String} {idx mc ms : Nat} {rm : Room} (hts : ∀ w ∈ lw_all, w.before args s = true) (hl : Cond.methodLink own idx yX6_calendar ∈ lw_all) (hrc : rm.cells = mc) (hrs : rm.slots = ms) (hR : rm.frames + 1 ≤ R.frames ∧ 8 + (4 + 11) + rm.locals ≤ R.locals) : CallW R s args own RX6 idx yX6_calendar cX6_calendar 4 (some .int) (ws_ yX6_calendar cX6_calendar 4 (some .int)) rm mc ms 2 :=
  cwV 2 hts (lw_V hl q2198 q2199 q115 q2200) rfl hrc hrs (by decide +kernel) hR
set_option maxHeartbeats 4000000 in
set_option maxRecDepth 100000 in
theorem mtX6_calendar (l : Launch) (D : va_G) (k : Nat → ClassId) (a : Nat → Nat) (Z : zZ) (hOK : zOK D zCl (zTys k) Z) (t : Tw) (p1 : Int32) (p2 : Bool) (r : Int32) (tt : Tw) (hrun : fX6_calendar t p1 p2 = some (r, tt)) :
    CtW l yX6_calendar cX6_calendar 4 (some .int) rX6_calendar Z D zCl (cT k a t) [.ref (a 0), .int p1, .int (bz p2)] (fun r' w' => r' = (some (.int r)) ∧ w' = cT k a tt) 0 0 := by
  refine CtW.of (by decide) (Nat.le_of_ble_eq_true rfl) ?_
  intro p e s m args below meth c A hE hA hP hD hS hz ls hl
  obtain ⟨hx, hb, hr, hml, hown, hts, hlocks, hname⟩ := hE
  have hown : s.vm.findClass RX6 = some m.cls := hown
  have hK := hOK.1 _ _ _ hz
  have hl : lv_has ls 4 [(0, .ref (a 0)), (1, .int p1), (2, .int (bz p2))] := hl
  unfold fX6_calendar at hrun
  refine lv_aload_n hx hb dX6_calendar_0 rfl (lv_at hl 0 rfl) ?_
  refine lv_iload_n hx hb dX6_calendar_1 rfl (lv_at hl 1 rfl) ?_
  refine lv_iconst (v := (0 : Int32)) hx hb dX6_calendar_2 (by decide) ?_
  refine lv_iconst (v := (1 : Int32)) hx hb dX6_calendar_3 (by decide) ?_
  obtain ⟨r_2, hc_1, hrun⟩ := mob_s rfl hrun
  refine cRS (ws := []) (As := [.int p1, .int (0 : Int32), .int (1 : Int32)]) ⟨hx, hb, hml, hown, hts⟩ hOK hz hS zP0 (mtX6_isIn l D Z hOK _ _ _ _ hc_1) (kX6_isIn hts q1981 rfl rfl ⟨Nat.le_of_ble_eq_true rfl, Nat.le_of_ble_eq_true rfl⟩) rfl hl.1 rfl (lv_room (Nat.le_of_ble_eq_true rfl)) ⟨Nat.le_of_ble_eq_true rfl, Nat.le_of_ble_eq_true rfl⟩ dX6_calendar_4 ?_
  obtain ⟨K_6, hK_6, hrun⟩ := mjn_s hrun
  have hj_4 : ∀ (y_5 : Bool), ∀ (H : Heap) (locs : List Loc), va_P D zCl (cT k a t) H → va_D A (cT k a t) → va_S A s.heap H locs → ∀ ls : Array Slot, lv_has ls 4 [(0, .ref (a 0)), (1, .int p1), (2, .int (bz p2))] → K_6 y_5 = some (r, tt) → W p l e rX6_calendar s m args below meth c H locs 0 0 (MQ below (QWr (fun r' w' => r' = (some (.int r)) ∧ w' = cT k a tt) D zCl A) args s 0 0 A) (F0 m 15 ls [.int (bz y_5), .ref (a 0)]) := by
    intro y_5 H locs hP hD hS ls hl hrun
    rw [hK_6] at hrun
    refine va_put (ci := 0) (v := .int (bz y_5)) (ty := tyX6 0) (C := RX6) (T := TX6) (N := 22) hx hb hts in_X6 tyX6 tyX6_ok nmX6 hown hK hP hD hS 0 rfl rfl 0 (by decide) (hts _ q1902) (fun _ h9 => h9) rfl (tyX6_ok 0 (by decide)) rfl rfl (Nat.le_of_ble_eq_true rfl) dX6_calendar_15 (fun H locs hP hD hS => ?_)
    have hP : va_P D zCl (cT k a (tw_s_thrown t (bz y_5))) H := hP
    have hD : va_D A (cT k a (tw_s_thrown t (bz y_5))) := hD
    obtain ⟨t_7, et_7⟩ : ∃ z : Tw, z = (tw_s_thrown t (bz y_5)) := ⟨_, rfl⟩
    rw [← et_7] at hP hD
    have hrun := mlt_s hrun t_7 et_7
    refine lv_aload_n hx hb dX6_calendar_18 rfl (lv_at hl 0 rfl) ?_
    refine va_get (ci := 0) (v := .int (tw_thrown t_7)) (C := RX6) (T := TX6) (N := 22) hx hb hts in_X6 hown hK hP 0 rfl rfl 0 (by decide) (hts _ q1902) (fun _ h9 => h9) rfl dX6_calendar_19 ?_
    refine lv_if_gt (tgt := 29) hx hb dX6_calendar_22 (by decide) (fun c_8 => ?_) (fun c_8 => ?_)
    · have hrun := mif_p c_8 hrun
      refine lv_aload_n hx hb dX6_calendar_29 rfl (lv_at hl 0 rfl) ?_
      refine va_get (ci := 0) (v := .int (tw_thrown t_7)) (C := RX6) (T := TX6) (N := 22) hx hb hts in_X6 hown hK hP 0 rfl rfl 0 (by decide) (hts _ q1902) (fun _ h9 => h9) rfl dX6_calendar_30 ?_
      refine lv_if_le (tgt := 40) hx hb dX6_calendar_33 (by decide) (fun c_9 => ?_) (fun c_9 => ?_)
      · have hrun := mif_p c_9 hrun
        refine lv_aload_n hx hb dX6_calendar_40 rfl (lv_at hl 0 rfl) ?_
        refine va_get (ci := 0) (v := .ref (a 1)) (C := RX6) (T := TX6) (N := 22) hx hb hts in_X6 hown hK hP 0 rfl rfl 1 (by decide) (hts _ q1903) (fun _ h9 => h9) rfl dX6_calendar_41 ?_
        refine lv_bipush (v := (12 : Int32)) hx hb dX6_calendar_44 (by decide) ?_
        refine lv_iload_n hx hb dX6_calendar_46 rfl (lv_at hl 1 rfl) ?_
        refine lv_iadd hx hb dX6_calendar_47 ?_
        obtain ⟨hb_10, hrun⟩ := mck_s rfl hrun
        refine va_iald hx hb hK hP 1 0 rfl rfl hb_10 dX6_calendar_48 ?_
        cases hrun
        exact retW_i hx hb hr hlocks hP hD hS ⟨rfl, rfl⟩ dX6_calendar_49
      have hrun := mif_n c_9 hrun
      refine lv_iconst (v := (0 : Int32)) hx hb dX6_calendar_36 (by decide) ?_
      refine lv_goto (tgt := 49) hx hb dX6_calendar_37 (by decide) ?_
      cases hrun
      exact retW_i hx hb hr hlocks hP hD hS ⟨rfl, rfl⟩ dX6_calendar_49
    have hrun := mif_n c_8 hrun
    refine lv_iload_n hx hb dX6_calendar_25 rfl (lv_at hl 2 rfl) ?_
    refine lv_if_ne (tgt := 50) hx hb dX6_calendar_26 (by decide) (fun c_11 => ?_) (fun c_11 => ?_)
    · have hrun := mif_p (bz_nz c_11) hrun
      refine lv_iconst (v := (0 : Int32)) hx hb dX6_calendar_50 (by decide) ?_
      refine lv_istore_n (lv' := [(3, .int (0 : Int32)), (0, .ref (a 0)), (1, .int p1), (2, .int (bz p2))]) hx hb dX6_calendar_51 rfl hl (by decide) rfl (fun ls hl => ?_)
      have hL_12 : ∀ n : Nat, ∀ (x3_13 : Int32), ∀ (H : Heap) (locs : List Loc), va_P D zCl (cT k a t_7) H → va_D A (cT k a t_7) → va_S A s.heap H locs → ∀ ls : Array Slot, lv_has ls 4 [(0, .ref (a 0)), (1, .int p1), (3, .int x3_13)] → fX6_calendar_L52 t_7 p1 n x3_13 = some (r, tt) → W p l e rX6_calendar s m args below meth c H locs 0 0 (MQ below (QWr (fun r' w' => r' = (some (.int r)) ∧ w' = cT k a tt) D zCl A) args s 0 0 A) (F0 m 52 ls []) := by
        intro n
        induction n with
        | zero =>
          intro x3_13 H locs hP hD hS ls hl hrun
          exact nomatch hrun
        | succ n ih =>
          intro x3_13 H locs hP hD hS ls hl hrun
          rw [fX6_calendar_L52.eq_2] at hrun
          refine lv_aload_n hx hb dX6_calendar_52 rfl (lv_at hl 0 rfl) ?_
          refine lv_iload_n hx hb dX6_calendar_53 rfl (lv_at hl 1 rfl) ?_
          refine lv_aload_n hx hb dX6_calendar_54 rfl (lv_at hl 0 rfl) ?_
          refine va_get (ci := 0) (v := .ref (a 1)) (C := RX6) (T := TX6) (N := 22) hx hb hts in_X6 hown hK hP 0 rfl rfl 1 (by decide) (hts _ q1903) (fun _ h9 => h9) rfl dX6_calendar_55 ?_
          refine lv_bipush (v := (10 : Int32)) hx hb dX6_calendar_58 (by decide) ?_
          refine va_ialdk (k := 10) hx hb hK hP 1 0 rfl rfl rfl (show ¬ _ from by decide) dX6_calendar_60 ?_
          refine lv_iload_n hx hb dX6_calendar_61 rfl (lv_at hl 2 rfl) ?_
          refine lv_iadd hx hb dX6_calendar_62 ?_
          obtain ⟨r_15, hc_14, hrun⟩ := mob_s rfl hrun
          refine cRV (As := [.int p1, .int (((tw_m t_7) 10) + x3_13)]) (ci := 0) ⟨hx, hb, hml, hown, hts⟩ hOK hz hS hP (mtX6_isSaturday l D k a Z hOK _ _ _ _ hc_14) (kX6_isSaturday hts q2151 rfl rfl ⟨Nat.le_of_ble_eq_true rfl, Nat.le_of_ble_eq_true rfl⟩) 0 rfl rfl rfl hl.1 rfl (lv_room (Nat.le_of_ble_eq_true rfl)) ⟨Nat.le_of_ble_eq_true rfl, Nat.le_of_ble_eq_true rfl⟩ dX6_calendar_63 ?_
          refine lv_if_ne (tgt := 75) hx hb dX6_calendar_66 (by decide) (fun c_16 => ?_) (fun c_16 => ?_)
          · have hrun := mif_p (bz_nz c_16) hrun
            refine lv_iload_n hx hb dX6_calendar_75 rfl (lv_at hl 2 rfl) ?_
            cases hrun
            exact retW_i hx hb hr hlocks hP hD hS ⟨rfl, rfl⟩ dX6_calendar_76
          have hrun := mif_n (bz_z c_16) hrun
          refine lv_iinc (v := (x3_13 + (1 : Int32))) (lv' := [(3, .int (x3_13 + (1 : Int32))), (0, .ref (a 0)), (1, .int p1)]) hx hb dX6_calendar_69 hl (k := 2) rfl rfl (by decide) rfl (fun ls hl => ?_)
          refine lv_goto (tgt := 52) hx hb dX6_calendar_72 (by decide) ?_
          exact ih (x3_13 + (1 : Int32)) _ _ hP hD hS ls (lv_sub hl [1, 2, 0] rfl) hrun
      exact hL_12 mFU (0 : Int32) _ _ hP hD hS ls (lv_sub hl [1, 2, 0] rfl) hrun
    have hrun := mif_n (bz_z c_11) hrun
    refine lv_aload_n hx hb dX6_calendar_29 rfl (lv_at hl 0 rfl) ?_
    refine va_get (ci := 0) (v := .int (tw_thrown t_7)) (C := RX6) (T := TX6) (N := 22) hx hb hts in_X6 hown hK hP 0 rfl rfl 0 (by decide) (hts _ q1902) (fun _ h9 => h9) rfl dX6_calendar_30 ?_
    refine lv_if_le (tgt := 40) hx hb dX6_calendar_33 (by decide) (fun c_18 => ?_) (fun c_18 => ?_)
    · have hrun := mif_p c_18 hrun
      refine lv_aload_n hx hb dX6_calendar_40 rfl (lv_at hl 0 rfl) ?_
      refine va_get (ci := 0) (v := .ref (a 1)) (C := RX6) (T := TX6) (N := 22) hx hb hts in_X6 hown hK hP 0 rfl rfl 1 (by decide) (hts _ q1903) (fun _ h9 => h9) rfl dX6_calendar_41 ?_
      refine lv_bipush (v := (12 : Int32)) hx hb dX6_calendar_44 (by decide) ?_
      refine lv_iload_n hx hb dX6_calendar_46 rfl (lv_at hl 1 rfl) ?_
      refine lv_iadd hx hb dX6_calendar_47 ?_
      obtain ⟨hb_19, hrun⟩ := mck_s rfl hrun
      refine va_iald hx hb hK hP 1 0 rfl rfl hb_19 dX6_calendar_48 ?_
      cases hrun
      exact retW_i hx hb hr hlocks hP hD hS ⟨rfl, rfl⟩ dX6_calendar_49
    have hrun := mif_n c_18 hrun
    refine lv_iconst (v := (0 : Int32)) hx hb dX6_calendar_36 (by decide) ?_
    refine lv_goto (tgt := 49) hx hb dX6_calendar_37 (by decide) ?_
    cases hrun
    exact retW_i hx hb hr hlocks hP hD hS ⟨rfl, rfl⟩ dX6_calendar_49
  refine lv_if_ne (tgt := 14) hx hb dX6_calendar_7 (by decide) (fun c_3 => ?_) (fun c_3 => ?_)
  · have hrun := mif_p (bz_nz c_3) hrun
    refine lv_iconst (v := (0 : Int32)) hx hb dX6_calendar_14 (by decide) ?_
    exact hj_4 false _ _ hP hD hS ls (lv_sub hl [0, 1, 2] rfl) hrun
  have hrun := mif_n (bz_z c_3) hrun
  refine lv_iconst (v := (1 : Int32)) hx hb dX6_calendar_10 (by decide) ?_
  refine lv_goto (tgt := 15) hx hb dX6_calendar_11 (by decide) ?_
  exact hj_4 true _ _ hP hD hS ls (lv_sub hl [0, 1, 2] rfl) hrun
def rX6_saturday : Room := { frames := 1, cells := 0, slots := 0, locals := 22 }
noncomputable def fX6_saturday (t : Tw) (p1 : Int32) (p2 : Int32) : Option (Bool × Tw) :=
  mob (fX6_isIn p1 (0 : Int32) (1 : Int32)) fun r_2 =>
  mjn (fun (y_5 : Int32) =>
  mlt (tw_s_thrown t y_5) fun t_7 =>
  if (tw_thrown t_7) = (0 : Int32) then
    mob (fX6_isSaturday t_7 p1 p2) fun r_10 =>
    if r_10 = true then
      some (true, t_7)
    else
      some (false, t_7)
  else
    some (false, t_7)) fun K_6 =>
  if r_2 = true then
    mob (fX6_isIn p2 (0 : Int32) (9999 : Int32)) fun r_13 =>
    if r_13 = true then
      K_6 (0 : Int32)
    else
      K_6 (2 : Int32)
  else
    K_6 (1 : Int32)
theorem kX6_saturday {R : Room} {s : State} {args : Array Value} {own : String} {idx mc ms : Nat} {rm : Room} (hts : ∀ w ∈ lw_all, w.before args s = true) (hl : Cond.methodLink own idx yX6_saturday ∈ lw_all) (hrc : rm.cells = mc) (hrs : rm.slots = ms) (hR : rm.frames + 1 ≤ R.frames ∧ 8 + (3 + 11) + rm.locals ≤ R.locals) : CallW R s args own RX6 idx yX6_saturday cX6_saturday 3 (some .boolean) (ws_ yX6_saturday cX6_saturday 3 (some .boolean)) rm mc ms 2 :=
  cwV 2 hts (lw_V hl q2202 q2203 q115 q2204) rfl hrc hrs (by decide +kernel) hR
set_option maxHeartbeats 4000000 in
set_option maxRecDepth 100000 in
theorem mtX6_saturday (l : Launch) (D : va_G) (k : Nat → ClassId) (a : Nat → Nat) (Z : zZ) (hOK : zOK D zCl (zTys k) Z) (t : Tw) (p1 : Int32) (p2 : Int32) (r : Bool) (tt : Tw) (hrun : fX6_saturday t p1 p2 = some (r, tt)) :
    CtW l yX6_saturday cX6_saturday 3 (some .boolean) rX6_saturday Z D zCl (cT k a t) [.ref (a 0), .int p1, .int p2] (fun r' w' => r' = (some (.int (bz r))) ∧ w' = cT k a tt) 0 0 := by
  refine CtW.of (by decide) (Nat.le_of_ble_eq_true rfl) ?_
  intro p e s m args below meth c A hE hA hP hD hS hz ls hl
  obtain ⟨hx, hb, hr, hml, hown, hts, hlocks, hname⟩ := hE
  have hown : s.vm.findClass RX6 = some m.cls := hown
  have hK := hOK.1 _ _ _ hz
  have hl : lv_has ls 3 [(0, .ref (a 0)), (1, .int p1), (2, .int p2)] := hl
  unfold fX6_saturday at hrun
  refine lv_aload_n hx hb dX6_saturday_0 rfl (lv_at hl 0 rfl) ?_
  refine lv_iload_n hx hb dX6_saturday_1 rfl (lv_at hl 1 rfl) ?_
  refine lv_iconst (v := (0 : Int32)) hx hb dX6_saturday_2 (by decide) ?_
  refine lv_iconst (v := (1 : Int32)) hx hb dX6_saturday_3 (by decide) ?_
  obtain ⟨r_2, hc_1, hrun⟩ := mob_s rfl hrun
  refine cRS (ws := []) (As := [.int p1, .int (0 : Int32), .int (1 : Int32)]) ⟨hx, hb, hml, hown, hts⟩ hOK hz hS zP0 (mtX6_isIn l D Z hOK _ _ _ _ hc_1) (kX6_isIn hts q1981 rfl rfl ⟨Nat.le_of_ble_eq_true rfl, Nat.le_of_ble_eq_true rfl⟩) rfl hl.1 rfl (lv_room (Nat.le_of_ble_eq_true rfl)) ⟨Nat.le_of_ble_eq_true rfl, Nat.le_of_ble_eq_true rfl⟩ dX6_saturday_4 ?_
  obtain ⟨K_6, hK_6, hrun⟩ := mjn_s hrun
  have hj_4 : ∀ (y_5 : Int32), ∀ (H : Heap) (locs : List Loc), va_P D zCl (cT k a t) H → va_D A (cT k a t) → va_S A s.heap H locs → ∀ ls : Array Slot, lv_has ls 3 [(0, .ref (a 0)), (1, .int p1), (2, .int p2)] → K_6 y_5 = some (r, tt) → W p l e rX6_saturday s m args below meth c H locs 0 0 (MQ below (QWr (fun r' w' => r' = (some (.int (bz r))) ∧ w' = cT k a tt) D zCl A) args s 0 0 A) (F0 m 30 ls [.int y_5, .ref (a 0)]) := by
    intro y_5 H locs hP hD hS ls hl hrun
    rw [hK_6] at hrun
    refine va_put (ci := 0) (v := .int y_5) (ty := tyX6 0) (C := RX6) (T := TX6) (N := 22) hx hb hts in_X6 tyX6 tyX6_ok nmX6 hown hK hP hD hS 0 rfl rfl 0 (by decide) (hts _ q1902) (fun _ h9 => h9) rfl (tyX6_ok 0 (by decide)) rfl rfl (Nat.le_of_ble_eq_true rfl) dX6_saturday_30 (fun H locs hP hD hS => ?_)
    have hP : va_P D zCl (cT k a (tw_s_thrown t y_5)) H := hP
    have hD : va_D A (cT k a (tw_s_thrown t y_5)) := hD
    obtain ⟨t_7, et_7⟩ : ∃ z : Tw, z = (tw_s_thrown t y_5) := ⟨_, rfl⟩
    rw [← et_7] at hP hD
    have hrun := mlt_s hrun t_7 et_7
    refine lv_aload_n hx hb dX6_saturday_33 rfl (lv_at hl 0 rfl) ?_
    refine va_get (ci := 0) (v := .int (tw_thrown t_7)) (C := RX6) (T := TX6) (N := 22) hx hb hts in_X6 hown hK hP 0 rfl rfl 0 (by decide) (hts _ q1902) (fun _ h9 => h9) rfl dX6_saturday_34 ?_
    refine lv_if_ne (tgt := 53) hx hb dX6_saturday_37 (by decide) (fun c_8 => ?_) (fun c_8 => ?_)
    · have hrun := mif_n c_8 hrun
      refine lv_iconst (v := (0 : Int32)) hx hb dX6_saturday_53 (by decide) ?_
      cases hrun
      exact retW_z (v := false) hx hb hr hlocks hP hD hS ⟨rfl, rfl⟩ dX6_saturday_54
    have hrun := mif_p c_8 hrun
    refine lv_aload_n hx hb dX6_saturday_40 rfl (lv_at hl 0 rfl) ?_
    refine lv_iload_n hx hb dX6_saturday_41 rfl (lv_at hl 1 rfl) ?_
    refine lv_iload_n hx hb dX6_saturday_42 rfl (lv_at hl 2 rfl) ?_
    obtain ⟨r_10, hc_9, hrun⟩ := mob_s rfl hrun
    refine cRV (As := [.int p1, .int p2]) (ci := 0) ⟨hx, hb, hml, hown, hts⟩ hOK hz hS hP (mtX6_isSaturday l D k a Z hOK _ _ _ _ hc_9) (kX6_isSaturday hts q2151 rfl rfl ⟨Nat.le_of_ble_eq_true rfl, Nat.le_of_ble_eq_true rfl⟩) 0 rfl rfl rfl hl.1 rfl (lv_room (Nat.le_of_ble_eq_true rfl)) ⟨Nat.le_of_ble_eq_true rfl, Nat.le_of_ble_eq_true rfl⟩ dX6_saturday_43 ?_
    refine lv_if_eq (tgt := 53) hx hb dX6_saturday_46 (by decide) (fun c_11 => ?_) (fun c_11 => ?_)
    · have hrun := mif_n (bz_z c_11) hrun
      refine lv_iconst (v := (0 : Int32)) hx hb dX6_saturday_53 (by decide) ?_
      cases hrun
      exact retW_z (v := false) hx hb hr hlocks hP hD hS ⟨rfl, rfl⟩ dX6_saturday_54
    have hrun := mif_p (bz_nz c_11) hrun
    refine lv_iconst (v := (1 : Int32)) hx hb dX6_saturday_49 (by decide) ?_
    refine lv_goto (tgt := 54) hx hb dX6_saturday_50 (by decide) ?_
    cases hrun
    exact retW_z (v := true) hx hb hr hlocks hP hD hS ⟨rfl, rfl⟩ dX6_saturday_54
  refine lv_if_ne (tgt := 14) hx hb dX6_saturday_7 (by decide) (fun c_3 => ?_) (fun c_3 => ?_)
  · have hrun := mif_p (bz_nz c_3) hrun
    refine lv_iload_n hx hb dX6_saturday_14 rfl (lv_at hl 2 rfl) ?_
    refine lv_iconst (v := (0 : Int32)) hx hb dX6_saturday_15 (by decide) ?_
    refine lv_sipush (v := (9999 : Int32)) hx hb dX6_saturday_16 (by decide) ?_
    obtain ⟨r_13, hc_12, hrun⟩ := mob_s rfl hrun
    refine cRS (ws := []) (As := [.int p2, .int (0 : Int32), .int (9999 : Int32)]) ⟨hx, hb, hml, hown, hts⟩ hOK hz hS zP0 (mtX6_isIn l D Z hOK _ _ _ _ hc_12) (kX6_isIn hts q1981 rfl rfl ⟨Nat.le_of_ble_eq_true rfl, Nat.le_of_ble_eq_true rfl⟩) rfl hl.1 rfl (lv_room (Nat.le_of_ble_eq_true rfl)) ⟨Nat.le_of_ble_eq_true rfl, Nat.le_of_ble_eq_true rfl⟩ dX6_saturday_19 ?_
    refine lv_if_ne (tgt := 29) hx hb dX6_saturday_22 (by decide) (fun c_14 => ?_) (fun c_14 => ?_)
    · have hrun := mif_p (bz_nz c_14) hrun
      refine lv_iconst (v := (0 : Int32)) hx hb dX6_saturday_29 (by decide) ?_
      exact hj_4 (0 : Int32) _ _ hP hD hS ls (lv_sub hl [0, 1, 2] rfl) hrun
    have hrun := mif_n (bz_z c_14) hrun
    refine lv_iconst (v := (2 : Int32)) hx hb dX6_saturday_25 (by decide) ?_
    refine lv_goto (tgt := 30) hx hb dX6_saturday_26 (by decide) ?_
    exact hj_4 (2 : Int32) _ _ hP hD hS ls (lv_sub hl [0, 1, 2] rfl) hrun
  have hrun := mif_n (bz_z c_3) hrun
  refine lv_iconst (v := (1 : Int32)) hx hb dX6_saturday_10 (by decide) ?_
  refine lv_goto (tgt := 30) hx hb dX6_saturday_11 (by decide) ?_
  exact hj_4 (1 : Int32) _ _ hP hD hS ls (lv_sub hl [0, 1, 2] rfl) hrun
