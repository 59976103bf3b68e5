/-! walks: J16_bitCount, X1_has, X1_in, X2_isSaturday, X2_doubts, X2_builds, X2_ends, X2_spies, X2_risk -/
def rJ16_bitCount : Room := { frames := 0, cells := 0, slots := 0, locals := 0 }
noncomputable def fJ16_bitCount (p0 : Int32) : Option (Int32) :=
  mlt (((p0 - ((mus p0 (1 : Int32)) &&& (1431655765 : Int32))) &&& (858993459 : Int32)) + ((mus (p0 - ((mus p0 (1 : Int32)) &&& (1431655765 : Int32))) (2 : Int32)) &&& (858993459 : Int32))) fun x0_1 =>
  mlt (((x0_1 + (mus x0_1 (4 : Int32))) &&& (252645135 : Int32)) + (mus ((x0_1 + (mus x0_1 (4 : Int32))) &&& (252645135 : Int32)) (8 : Int32))) fun x0_2 =>
  some ((x0_2 + (mus x0_2 (16 : Int32))) &&& (63 : Int32))
theorem kJ16_bitCount {R : Room} {s : State} {args : Array Value} {own : String} {idx mc ms : Nat} {rm : Room} (hts : ∀ w ∈ lw_all, w.before args s = true) (hl : Cond.methodLink own idx yJ16_bitCount ∈ lw_all) (hrc : rm.cells = mc) (hrs : rm.slots = ms) (hR : rm.frames + 1 ≤ R.frames ∧ 8 + (1 + 11) + rm.locals ≤ R.locals) : CallB R s args own idx yJ16_bitCount cJ16_bitCount 1 (some .int) (ws_ yJ16_bitCount cJ16_bitCount 1 (some .int)) rm mc ms 1 ∧ (Cond.static yJ16_bitCount).before args s = true :=
  va_cwS 1 hts (lw_S hl q457 q131 q458) rfl hrc hrs (by decide +kernel) hR
set_option maxHeartbeats 4000000 in
set_option maxRecDepth 100000 in
theorem mtJ16_bitCount (l : Launch) (D : va_G) (Z : zZ) {tys : List (ClassId × FieldType)} (hOK : zOK D zCl tys Z) (p0 : Int32) (r : Int32) (hrun : fJ16_bitCount p0 = some r) :
    CtR l yJ16_bitCount cJ16_bitCount 1 (some .int) rJ16_bitCount Z D zCl [] [.int p0] (some (.int r)) := by
  refine CtR.of (by decide) (Nat.le_of_ble_eq_true rfl) ?_
  intro p e s m args below meth c hE hP hz ls hl
  obtain ⟨hx, hb, hr, hml, hown, hts, hlocks, hname⟩ := hE
  have hown : s.vm.findClass RJ16 = some m.cls := hown
  have hK := hOK.1 _ _ _ hz
  have hN := hOK.2.1 _ _ _ hz
  have hl : lv_has ls 1 [(0, .int p0)] := hl
  unfold fJ16_bitCount at hrun
  refine lv_iload_n hx hb dJ16_bitCount_0 rfl (lv_at hl 0 rfl) ?_
  refine lv_iload_n hx hb dJ16_bitCount_1 rfl (lv_at hl 0 rfl) ?_
  refine lv_iconst (v := (1 : Int32)) hx hb dJ16_bitCount_2 (by decide) ?_
  refine lv_iushr (v := (mus p0 (1 : Int32))) hx hb dJ16_bitCount_3 rfl ?_
  refine lv_ldcw (v := (1431655765 : Int32)) hx hb hown (hts _ q459) dJ16_bitCount_4 ?_
  refine lv_iand hx hb dJ16_bitCount_7 ?_
  refine lv_isub hx hb dJ16_bitCount_8 ?_
  refine lv_istore_n (lv' := [(0, .int (p0 - ((mus p0 (1 : Int32)) &&& (1431655765 : Int32))))]) hx hb dJ16_bitCount_9 rfl hl (by decide) rfl (fun ls hl => ?_)
  refine lv_iload_n hx hb dJ16_bitCount_10 rfl (lv_at hl 0 rfl) ?_
  refine lv_ldcw (v := (858993459 : Int32)) hx hb hown (hts _ q460) dJ16_bitCount_11 ?_
  refine lv_iand hx hb dJ16_bitCount_14 ?_
  refine lv_iload_n hx hb dJ16_bitCount_15 rfl (lv_at hl 0 rfl) ?_
  refine lv_iconst (v := (2 : Int32)) hx hb dJ16_bitCount_16 (by decide) ?_
  refine lv_iushr (v := (mus (p0 - ((mus p0 (1 : Int32)) &&& (1431655765 : Int32))) (2 : Int32))) hx hb dJ16_bitCount_17 rfl ?_
  refine lv_ldcw (v := (858993459 : Int32)) hx hb hown (hts _ q460) dJ16_bitCount_18 ?_
  refine lv_iand hx hb dJ16_bitCount_21 ?_
  refine lv_iadd hx hb dJ16_bitCount_22 ?_
  refine lv_topi (fun x0_1 ex0_1 => ?_)
  have hrun := mlt_s hrun x0_1 ex0_1
  refine lv_istore_n (lv' := [(0, .int x0_1)]) hx hb dJ16_bitCount_23 rfl hl (by decide) rfl (fun ls hl => ?_)
  refine lv_iload_n hx hb dJ16_bitCount_24 rfl (lv_at hl 0 rfl) ?_
  refine lv_iload_n hx hb dJ16_bitCount_25 rfl (lv_at hl 0 rfl) ?_
  refine lv_iconst (v := (4 : Int32)) hx hb dJ16_bitCount_26 (by decide) ?_
  refine lv_iushr (v := (mus x0_1 (4 : Int32))) hx hb dJ16_bitCount_27 rfl ?_
  refine lv_iadd hx hb dJ16_bitCount_28 ?_
  refine lv_ldcw (v := (252645135 : Int32)) hx hb hown (hts _ q461) dJ16_bitCount_29 ?_
  refine lv_iand hx hb dJ16_bitCount_32 ?_
  refine lv_istore_n (lv' := [(0, .int ((x0_1 + (mus x0_1 (4 : Int32))) &&& (252645135 : Int32)))]) hx hb dJ16_bitCount_33 rfl hl (by decide) rfl (fun ls hl => ?_)
  refine lv_iload_n hx hb dJ16_bitCount_34 rfl (lv_at hl 0 rfl) ?_
  refine lv_iload_n hx hb dJ16_bitCount_35 rfl (lv_at hl 0 rfl) ?_
  refine lv_bipush (v := (8 : Int32)) hx hb dJ16_bitCount_36 (by decide) ?_
  refine lv_iushr (v := (mus ((x0_1 + (mus x0_1 (4 : Int32))) &&& (252645135 : Int32)) (8 : Int32))) hx hb dJ16_bitCount_38 rfl ?_
  refine lv_iadd hx hb dJ16_bitCount_39 ?_
  refine lv_topi (fun x0_2 ex0_2 => ?_)
  have hrun := mlt_s hrun x0_2 ex0_2
  refine lv_istore_n (lv' := [(0, .int x0_2)]) hx hb dJ16_bitCount_40 rfl hl (by decide) rfl (fun ls hl => ?_)
  refine lv_iload_n hx hb dJ16_bitCount_41 rfl (lv_at hl 0 rfl) ?_
  refine lv_iload_n hx hb dJ16_bitCount_42 rfl (lv_at hl 0 rfl) ?_
  refine lv_bipush (v := (16 : Int32)) hx hb dJ16_bitCount_43 (by decide) ?_
  refine lv_iushr (v := (mus x0_2 (16 : Int32))) hx hb dJ16_bitCount_45 rfl ?_
  refine lv_iadd hx hb dJ16_bitCount_46 ?_
  refine lv_istore_n (lv' := [(0, .int (x0_2 + (mus x0_2 (16 : Int32))))]) hx hb dJ16_bitCount_47 rfl hl (by decide) rfl (fun ls hl => ?_)
  refine lv_iload_n hx hb dJ16_bitCount_48 rfl (lv_at hl 0 rfl) ?_
  refine lv_bipush (v := (63 : Int32)) hx hb dJ16_bitCount_49 (by decide) ?_
  refine lv_iand hx hb dJ16_bitCount_51 ?_
  cases hrun
  exact retR_i hx hb hr hlocks rfl dJ16_bitCount_52
def rX1_has : Room := { frames := 0, cells := 0, slots := 0, locals := 0 }
noncomputable def fX1_has (p0 : Int32) (p1 : Int32) : Option (Bool) :=
  if ((p0 >>> (p1 &&& (31 : Int32))) &&& (1 : Int32)) = (1 : Int32) then
    some true
  else
    some false
theorem kX1_has {R : Room} {s : State} {args : Array Value} {own : String} {idx mc ms : Nat} {rm : Room} (hts : ∀ w ∈ lw_all, w.before args s = true) (hl : Cond.methodLink own idx yX1_has ∈ lw_all) (hrc : rm.cells = mc) (hrs : rm.slots = ms) (hR : rm.frames + 1 ≤ R.frames ∧ 8 + (2 + 11) + rm.locals ≤ R.locals) : CallB R s args own idx yX1_has cX1_has 2 (some .boolean) (ws_ yX1_has cX1_has 2 (some .boolean)) rm mc ms 2 ∧ (Cond.static yX1_has).before args s = true :=
  va_cwS 2 hts (lw_S hl q580 q107 q581) rfl hrc hrs (by decide +kernel) hR
theorem kX1_hasn {R : Room} {s : State} {args : Array Value} {own : String} {idx mc ms : Nat} {rm : Room} (hN : ∀ w ∈ zN, va_Nw w s) (hts : ∀ w ∈ lw_all, w.before args s = true) (hl : va_Nw (.methodLinkNest own idx yX1_has "SaturdayKeep") s) (hrc : rm.cells = mc) (hrs : rm.slots = ms) (hR : rm.frames + 1 ≤ R.frames ∧ 8 + (2 + 11) + rm.locals ≤ R.locals) : va_CN R s args own idx yX1_has "SaturdayKeep" cX1_has 2 (some .boolean) (ws_ yX1_has cX1_has 2 (some .boolean)) rm mc ms 2 ∧ (Cond.static yX1_has).before args s = true ∧ True :=
  ⟨va_cnB 2 hts (lw_meth q581) rfl hrc hrs hl (hts _ q107) (by decide +kernel) hR, hts _ q580, trivial⟩
set_option maxHeartbeats 4000000 in
set_option maxRecDepth 100000 in
theorem mtX1_has (l : Launch) (D : va_G) (Z : zZ) {tys : List (ClassId × FieldType)} (hOK : zOK D zCl tys Z) (p0 : Int32) (p1 : Int32) (r : Bool) (hrun : fX1_has p0 p1 = some r) :
    CtR l yX1_has cX1_has 2 (some .boolean) rX1_has Z D zCl [] [.int p0, .int p1] (some (.int (bz r))) := by
  refine CtR.of (by decide) (Nat.le_of_ble_eq_true rfl) ?_
  intro p e s m args below meth c hE hP hz ls hl
  obtain ⟨hx, hb, hr, hml, hown, hts, hlocks, hname⟩ := hE
  have hown : s.vm.findClass RX1 = some m.cls := hown
  have hK := hOK.1 _ _ _ hz
  have hN := hOK.2.1 _ _ _ hz
  have hl : lv_has ls 2 [(0, .int p0), (1, .int p1)] := hl
  unfold fX1_has at hrun
  refine lv_iload_n hx hb dX1_has_0 rfl (lv_at hl 0 rfl) ?_
  refine lv_iload_n hx hb dX1_has_1 rfl (lv_at hl 1 rfl) ?_
  refine lv_ishr hx hb dX1_has_2 ?_
  refine lv_iconst (v := (1 : Int32)) hx hb dX1_has_3 (by decide) ?_
  refine lv_iand hx hb dX1_has_4 ?_
  refine lv_iconst (v := (1 : Int32)) hx hb dX1_has_5 (by decide) ?_
  refine lv_icmp_ne (tgt := 13) hx hb dX1_has_6 (by decide) (fun c_1 => ?_) (fun c_1 => ?_)
  · have hrun := mif_n c_1 hrun
    refine lv_iconst (v := (0 : Int32)) hx hb dX1_has_13 (by decide) ?_
    cases hrun
    exact retR_z (v := false) hx hb hr hlocks rfl dX1_has_14
  have hrun := mif_p c_1 hrun
  refine lv_iconst (v := (1 : Int32)) hx hb dX1_has_9 (by decide) ?_
  refine lv_goto (tgt := 14) hx hb dX1_has_10 (by decide) ?_
  cases hrun
  exact retR_z (v := true) hx hb hr hlocks rfl dX1_has_14
def rX1_in : Room := { frames := 0, cells := 0, slots := 0, locals := 0 }
noncomputable def fX1_in (p0 : Int32) (p1 : Int32) (p2 : Int32) : Option (Bool) :=
  if p0 < p1 then
    some false
  else
    if p2 < p0 then
      some false
    else
      some true
theorem kX1_in {R : Room} {s : State} {args : Array Value} {own : String} {idx mc ms : Nat} {rm : Room} (hts : ∀ w ∈ lw_all, w.before args s = true) (hl : Cond.methodLink own idx yX1_in ∈ lw_all) (hrc : rm.cells = mc) (hrs : rm.slots = ms) (hR : rm.frames + 1 ≤ R.frames ∧ 8 + (3 + 11) + rm.locals ≤ R.locals) : CallB R s args own idx yX1_in cX1_in 3 (some .boolean) (ws_ yX1_in cX1_in 3 (some .boolean)) rm mc ms 3 ∧ (Cond.static yX1_in).before args s = true :=
  va_cwS 3 hts (lw_S hl q648 q107 q649) rfl hrc hrs (by decide +kernel) hR
theorem kX1_inn {R : Room} {s : State} {args : Array Value} {own : String} {idx mc ms : Nat} {rm : Room} (hN : ∀ w ∈ zN, va_Nw w s) (hts : ∀ w ∈ lw_all, w.before args s = true) (hl : va_Nw (.methodLinkNest own idx yX1_in "SaturdayKeep") s) (hrc : rm.cells = mc) (hrs : rm.slots = ms) (hR : rm.frames + 1 ≤ R.frames ∧ 8 + (3 + 11) + rm.locals ≤ R.locals) : va_CN R s args own idx yX1_in "SaturdayKeep" cX1_in 3 (some .boolean) (ws_ yX1_in cX1_in 3 (some .boolean)) rm mc ms 3 ∧ (Cond.static yX1_in).before args s = true ∧ True :=
  ⟨va_cnB 3 hts (lw_meth q649) rfl hrc hrs hl (hts _ q107) (by decide +kernel) hR, hts _ q648, trivial⟩
set_option maxHeartbeats 4000000 in
set_option maxRecDepth 100000 in
theorem mtX1_in (l : Launch) (D : va_G) (Z : zZ) {tys : List (ClassId × FieldType)} (hOK : zOK D zCl tys Z) (p0 : Int32) (p1 : Int32) (p2 : Int32) (r : Bool) (hrun : fX1_in p0 p1 p2 = some r) :
    CtR l yX1_in cX1_in 3 (some .boolean) rX1_in Z D zCl [] [.int p0, .int p1, .int p2] (some (.int (bz r))) := by
  refine CtR.of (by decide) (Nat.le_of_ble_eq_true rfl) ?_
  intro p e s m args below meth c hE hP hz ls hl
  obtain ⟨hx, hb, hr, hml, hown, hts, hlocks, hname⟩ := hE
  have hown : s.vm.findClass RX1 = some m.cls := hown
  have hK := hOK.1 _ _ _ hz
  have hN := hOK.2.1 _ _ _ hz
  have hl : lv_has ls 3 [(0, .int p0), (1, .int p1), (2, .int p2)] := hl
  unfold fX1_in at hrun
  refine lv_iload_n hx hb dX1_in_0 rfl (lv_at hl 0 rfl) ?_
  refine lv_iload_n hx hb dX1_in_1 rfl (lv_at hl 1 rfl) ?_
  refine lv_icmp_lt (tgt := 14) hx hb dX1_in_2 (by decide) (fun c_1 => ?_) (fun c_1 => ?_)
  · have hrun := mif_p c_1 hrun
    refine lv_iconst (v := (0 : Int32)) hx hb dX1_in_14 (by decide) ?_
    cases hrun
    exact retR_z (v := false) hx hb hr hlocks rfl dX1_in_15
  have hrun := mif_n c_1 hrun
  refine lv_iload_n hx hb dX1_in_5 rfl (lv_at hl 0 rfl) ?_
  refine lv_iload_n hx hb dX1_in_6 rfl (lv_at hl 2 rfl) ?_
  refine lv_icmp_gt (tgt := 14) hx hb dX1_in_7 (by decide) (fun c_2 => ?_) (fun c_2 => ?_)
  · have hrun := mif_p c_2 hrun
    refine lv_iconst (v := (0 : Int32)) hx hb dX1_in_14 (by decide) ?_
    cases hrun
    exact retR_z (v := false) hx hb hr hlocks rfl dX1_in_15
  have hrun := mif_n c_2 hrun
  refine lv_iconst (v := (1 : Int32)) hx hb dX1_in_10 (by decide) ?_
  refine lv_goto (tgt := 15) hx hb dX1_in_11 (by decide) ?_
  cases hrun
  exact retR_z (v := true) hx hb hr hlocks rfl dX1_in_15
def rX2_isSaturday : Room := { frames := 0, cells := 0, slots := 0, locals := 0 }
noncomputable def fX2_isSaturday (su : Wd) (p1 : Int32) (p2 : Int32) : Option (Bool) :=
  mck p1 2 <|
  if (mrm (p2 + ((wd_shift su) (Int32.toNatClampNeg p1))) (7 : Int32)) = (6 : Int32) then
    some true
  else
    some false
theorem kX2_isSaturday {R : Room} {s : State} {args : Array Value} {own : String} {idx mc ms : Nat} {rm : Room} (hts : ∀ w ∈ lw_all, w.before args s = true) (hl : Cond.methodLink own idx yX2_isSaturday ∈ lw_all) (hrc : rm.cells = mc) (hrs : rm.slots = ms) (hR : rm.frames + 1 ≤ R.frames ∧ 8 + (3 + 11) + rm.locals ≤ R.locals) : CallW R s args own RX2 idx yX2_isSaturday cX2_isSaturday 3 (some .boolean) (ws_ yX2_isSaturday cX2_isSaturday 3 (some .boolean)) rm mc ms 2 :=
  cwV 2 hts (lw_V hl q427 q428 q108 q429) rfl hrc hrs (by decide +kernel) hR
set_option maxHeartbeats 4000000 in
set_option maxRecDepth 100000 in
theorem mtX2_isSaturday (l : Launch) (D : va_G) (k : Nat → ClassId) (au : Nat → Nat) (Z : zZ) (hOK : zOK D zCl (zTys k) Z) (su : Wd) (p1 : Int32) (p2 : Int32) (r : Bool) (hrun : fX2_isSaturday su p1 p2 = some r) :
    CtR l yX2_isSaturday cX2_isSaturday 3 (some .boolean) rX2_isSaturday Z D zCl (cW k au su) [.ref (au 0), .int p1, .int p2] (some (.int (bz r))) := by
  refine CtR.of (by decide) (Nat.le_of_ble_eq_true rfl) ?_
  intro p e s m args below meth c hE hP hz ls hl
  obtain ⟨hx, hb, hr, hml, hown, hts, hlocks, hname⟩ := hE
  have hown : s.vm.findClass RX2 = some m.cls := hown
  have hK := hOK.1 _ _ _ hz
  have hN := hOK.2.1 _ _ _ hz
  have hl : lv_has ls 3 [(0, .ref (au 0)), (1, .int p1), (2, .int p2)] := hl
  unfold fX2_isSaturday at hrun
  refine lv_iload_n hx hb dX2_isSaturday_0 rfl (lv_at hl 2 rfl) ?_
  refine lv_aload_n hx hb dX2_isSaturday_1 rfl (lv_at hl 0 rfl) ?_
  refine va_get (ci := 2) (v := .ref (au 1)) (C := RX2) (T := TX2) (N := 21) hx hb hts in_X2 hown hK hP 0 rfl rfl 12 (by decide) (hts _ q188) (fun _ h9 => h9) rfl dX2_isSaturday_2 ?_
  refine lv_iload_n hx hb dX2_isSaturday_5 rfl (lv_at hl 1 rfl) ?_
  obtain ⟨hb_1, hrun⟩ := mck_s rfl hrun
  refine va_iald hx hb hK hP 1 0 rfl rfl hb_1 dX2_isSaturday_6 ?_
  refine lv_iadd hx hb dX2_isSaturday_7 ?_
  refine lv_bipush (v := (7 : Int32)) hx hb dX2_isSaturday_8 (by decide) ?_
  refine lv_irem hx hb dX2_isSaturday_10 (by decide) ?_
  refine lv_bipush (v := (6 : Int32)) hx hb dX2_isSaturday_11 (by decide) ?_
  refine lv_icmp_ne (tgt := 20) hx hb dX2_isSaturday_13 (by decide) (fun c_2 => ?_) (fun c_2 => ?_)
  · have hrun := mif_n c_2 hrun
    refine lv_iconst (v := (0 : Int32)) hx hb dX2_isSaturday_20 (by decide) ?_
    cases hrun
    exact retR_z (v := false) hx hb hr hlocks rfl dX2_isSaturday_21
  have hrun := mif_p c_2 hrun
  refine lv_iconst (v := (1 : Int32)) hx hb dX2_isSaturday_16 (by decide) ?_
  refine lv_goto (tgt := 21) hx hb dX2_isSaturday_17 (by decide) ?_
  cases hrun
  exact retR_z (v := true) hx hb hr hlocks rfl dX2_isSaturday_21
def rX2_doubts : Room := { frames := 1, cells := 0, slots := 0, locals := 40 }
noncomputable def fX2_doubts (su : Wd) (p1 : Int32) (p2 : Int32) : Option (Wd) :=
  mck p1 8 <|
  mlt (wd_s_doubt su (upd (wd_doubt su) (Int32.toNatClampNeg p1) (zmx (0 : Int32) (zmn (99 : Int32) p2)))) fun su_2 =>
  some su_2
theorem kX2_doubts {R : Room} {s : State} {args : Array Value} {own : String} {idx mc ms : Nat} {rm : Room} (hts : ∀ w ∈ lw_all, w.before args s = true) (hl : Cond.methodLink own idx yX2_doubts ∈ lw_all) (hrc : rm.cells = mc) (hrs : rm.slots = ms) (hR : rm.frames + 1 ≤ R.frames ∧ 8 + (3 + 11) + rm.locals ≤ R.locals) : CallW R s args own RX2 idx yX2_doubts cX2_doubts 3 none (ws_ yX2_doubts cX2_doubts 3 none) rm mc ms 2 :=
  cwV 2 hts (lw_V hl q546 q547 q108 q548) rfl hrc hrs (by decide +kernel) hR
set_option maxHeartbeats 4000000 in
set_option maxRecDepth 100000 in
theorem mtX2_doubts (l : Launch) (D : va_G) (k : Nat → ClassId) (au : Nat → Nat) (Z : zZ) (hOK : zOK D zCl (zTys k) Z) (su : Wd) (p1 : Int32) (p2 : Int32) (ou : Wd) (hrun : fX2_doubts su p1 p2 = some ou) :
    CtW l yX2_doubts cX2_doubts 3 none rX2_doubts Z D zCl (cW k au su) [.ref (au 0), .int p1, .int p2] (fun r' w' => r' = none ∧ w' = (cW k au ou)) 0 0 := by
  refine CtW.of (by decide) (Nat.le_of_ble_eq_true rfl) ?_
  intro p e s m args below meth c A hE hA hP hD hS hz ls hl
  obtain ⟨hx, hb, hr, hml, hown, hts, hlocks, hname⟩ := hE
  have hown : s.vm.findClass RX2 = some m.cls := hown
  have hK := hOK.1 _ _ _ hz
  have hN := hOK.2.1 _ _ _ hz
  have hl : lv_has ls 3 [(0, .ref (au 0)), (1, .int p1), (2, .int p2)] := hl
  unfold fX2_doubts at hrun
  refine lv_aload_n hx hb dX2_doubts_0 rfl (lv_at hl 0 rfl) ?_
  refine va_get (ci := 2) (v := .ref (au 4)) (C := RX2) (T := TX2) (N := 21) hx hb hts in_X2 hown hK hP 0 rfl rfl 15 (by decide) (hts _ q195) (fun _ h9 => h9) rfl dX2_doubts_1 ?_
  refine lv_iload_n hx hb dX2_doubts_4 rfl (lv_at hl 1 rfl) ?_
  refine lv_iconst (v := (0 : Int32)) hx hb dX2_doubts_5 (by decide) ?_
  refine lv_bipush (v := (99 : Int32)) hx hb dX2_doubts_6 (by decide) ?_
  refine lv_iload_n hx hb dX2_doubts_8 rfl (lv_at hl 2 rfl) ?_
  refine va_mmin hx hb (hml.trans hl.1.symm) hown (hts _ q549) (hts _ q550) (hts _ q122) (hts _ q551) (Nat.le_of_ble_eq_true rfl) (Nat.le_of_ble_eq_true rfl) (Nat.le_of_ble_eq_true rfl) (Nat.le_of_ble_eq_true rfl) dX2_doubts_9 ?_
  refine va_mmax hx hb (hml.trans hl.1.symm) hown (hts _ q552) (hts _ q553) (hts _ q122) (hts _ q554) (Nat.le_of_ble_eq_true rfl) (Nat.le_of_ble_eq_true rfl) (Nat.le_of_ble_eq_true rfl) (Nat.le_of_ble_eq_true rfl) dX2_doubts_12 ?_
  obtain ⟨hb_1, hrun⟩ := mck_s rfl hrun
  refine va_iast hx hb hK hP hD hS 4 0 rfl rfl hb_1 dX2_doubts_15 (fun H locs hP hD hS => ?_)
  have hP : va_P D zCl (cW k au (wd_s_doubt su (upd (wd_doubt su) (Int32.toNatClampNeg p1) (zmx (0 : Int32) (zmn (99 : Int32) p2))))) H := hP
  have hD : va_D A (cW k au (wd_s_doubt su (upd (wd_doubt su) (Int32.toNatClampNeg p1) (zmx (0 : Int32) (zmn (99 : Int32) p2))))) := hD
  obtain ⟨su_2, esu_2⟩ : ∃ z : Wd, z = (wd_s_doubt su (upd (wd_doubt su) (Int32.toNatClampNeg p1) (zmx (0 : Int32) (zmn (99 : Int32) p2)))) := ⟨_, rfl⟩
  rw [← esu_2] at hP hD
  have hrun := mlt_s hrun su_2 esu_2
  cases hrun
  exact retW_v hx hb hr hlocks hP hD hS ⟨rfl, rfl⟩ dX2_doubts_16
def rX2_builds : Room := { frames := 1, cells := 0, slots := 0, locals := 40 }
noncomputable def fX2_builds (su : Wd) : Option (Wd) :=
  mlt (zmn (9999 : Int32) ((wd_towers su) + (zmn (wd_masons su) (wd_stones su)))) fun v_1 =>
  mlt (wd_s_towers su v_1) fun su_2 =>
  mlt ((wd_stones su_2) - (zmn (wd_masons su) (wd_stones su))) fun v_3 =>
  mlt (wd_s_stones su_2 v_3) fun su_4 =>
  some su_4
theorem kX2_builds {R : Room} {s : State} {args : Array Value} {own : String} {idx mc ms : Nat} {rm : Room} (hts : ∀ w ∈ lw_all, w.before args s = true) (hl : Cond.methodLink own idx yX2_builds ∈ lw_all) (hrc : rm.cells = mc) (hrs : rm.slots = ms) (hR : rm.frames + 1 ≤ R.frames ∧ 8 + (2 + 11) + rm.locals ≤ R.locals) : CallW R s args own RX2 idx yX2_builds cX2_builds 2 none (ws_ yX2_builds cX2_builds 2 none) rm mc ms 0 :=
  cwV 0 hts (lw_V hl q556 q557 q108 q558) rfl hrc hrs (by decide +kernel) hR
set_option maxHeartbeats 4000000 in
set_option maxRecDepth 100000 in
theorem mtX2_builds (l : Launch) (D : va_G) (k : Nat → ClassId) (au : Nat → Nat) (Z : zZ) (hOK : zOK D zCl (zTys k) Z) (su : Wd) (ou : Wd) (hrun : fX2_builds su = some ou) :
    CtW l yX2_builds cX2_builds 2 none rX2_builds Z D zCl (cW k au su) [.ref (au 0)] (fun r' w' => r' = none ∧ w' = (cW k au ou)) 0 0 := by
  refine CtW.of (by decide) (Nat.le_of_ble_eq_true rfl) ?_
  intro p e s m args below meth c A hE hA hP hD hS hz ls hl
  obtain ⟨hx, hb, hr, hml, hown, hts, hlocks, hname⟩ := hE
  have hown : s.vm.findClass RX2 = some m.cls := hown
  have hK := hOK.1 _ _ _ hz
  have hN := hOK.2.1 _ _ _ hz
  have hl : lv_has ls 2 [(0, .ref (au 0))] := hl
  unfold fX2_builds at hrun
  refine lv_aload_n hx hb dX2_builds_0 rfl (lv_at hl 0 rfl) ?_
  refine va_get (ci := 2) (v := .int (wd_masons su)) (C := RX2) (T := TX2) (N := 21) hx hb hts in_X2 hown hK hP 0 rfl rfl 5 (by decide) (hts _ q174) (fun _ h9 => h9) rfl dX2_builds_1 ?_
  refine lv_aload_n hx hb dX2_builds_4 rfl (lv_at hl 0 rfl) ?_
  refine va_get (ci := 2) (v := .int (wd_stones su)) (C := RX2) (T := TX2) (N := 21) hx hb hts in_X2 hown hK hP 0 rfl rfl 6 (by decide) (hts _ q176) (fun _ h9 => h9) rfl dX2_builds_5 ?_
  refine va_mmin hx hb (hml.trans hl.1.symm) hown (hts _ q549) (hts _ q550) (hts _ q122) (hts _ q551) (Nat.le_of_ble_eq_true rfl) (Nat.le_of_ble_eq_true rfl) (Nat.le_of_ble_eq_true rfl) (Nat.le_of_ble_eq_true rfl) dX2_builds_8 ?_
  refine lv_istore_n (lv' := [(1, .int (zmn (wd_masons su) (wd_stones su))), (0, .ref (au 0))]) hx hb dX2_builds_11 rfl hl (by decide) rfl (fun ls hl => ?_)
  refine lv_aload_n hx hb dX2_builds_12 rfl (lv_at hl 1 rfl) ?_
  refine lv_sipush (v := (9999 : Int32)) hx hb dX2_builds_13 (by decide) ?_
  refine lv_aload_n hx hb dX2_builds_16 rfl (lv_at hl 1 rfl) ?_
  refine va_get (ci := 2) (v := .int (wd_towers su)) (C := RX2) (T := TX2) (N := 21) hx hb hts in_X2 hown hK hP 0 rfl rfl 7 (by decide) (hts _ q178) (fun _ h9 => h9) rfl dX2_builds_17 ?_
  refine lv_iload_n hx hb dX2_builds_20 rfl (lv_at hl 0 rfl) ?_
  refine lv_iadd hx hb dX2_builds_21 ?_
  refine va_mmin hx hb (hml.trans hl.1.symm) hown (hts _ q549) (hts _ q550) (hts _ q122) (hts _ q551) (Nat.le_of_ble_eq_true rfl) (Nat.le_of_ble_eq_true rfl) (Nat.le_of_ble_eq_true rfl) (Nat.le_of_ble_eq_true rfl) dX2_builds_22 ?_
  refine lv_topi (fun v_1 ev_1 => ?_)
  have hrun := mlt_s hrun v_1 ev_1
  refine va_put (ci := 2) (v := .int v_1) (ty := tyX2 7) (C := RX2) (T := TX2) (N := 21) hx hb hts in_X2 tyX2 tyX2_ok nmX2 hown hK hP hD hS 0 rfl rfl 7 (by decide) (hts _ q178) (fun _ h9 => h9) rfl (tyX2_ok 7 (by decide)) rfl rfl (Nat.le_of_ble_eq_true rfl) dX2_builds_25 (fun H locs hP hD hS => ?_)
  have hP : va_P D zCl (cW k au (wd_s_towers su v_1)) H := hP
  have hD : va_D A (cW k au (wd_s_towers su v_1)) := hD
  obtain ⟨su_2, esu_2⟩ : ∃ z : Wd, z = (wd_s_towers su v_1) := ⟨_, rfl⟩
  rw [← esu_2] at hP hD
  have hrun := mlt_s hrun su_2 esu_2
  refine lv_aload_n hx hb dX2_builds_28 rfl (lv_at hl 1 rfl) ?_
  refine lv_dup hx hb dX2_builds_29 rfl ?_
  refine va_get (ci := 2) (v := .int (wd_stones su_2)) (C := RX2) (T := TX2) (N := 21) hx hb hts in_X2 hown hK hP 0 rfl rfl 6 (by decide) (hts _ q176) (fun _ h9 => h9) rfl dX2_builds_30 ?_
  refine lv_iload_n hx hb dX2_builds_33 rfl (lv_at hl 0 rfl) ?_
  refine lv_isub hx hb dX2_builds_34 ?_
  refine lv_topi (fun v_3 ev_3 => ?_)
  have hrun := mlt_s hrun v_3 ev_3
  refine va_put (ci := 2) (v := .int v_3) (ty := tyX2 6) (C := RX2) (T := TX2) (N := 21) hx hb hts in_X2 tyX2 tyX2_ok nmX2 hown hK hP hD hS 0 rfl rfl 6 (by decide) (hts _ q176) (fun _ h9 => h9) rfl (tyX2_ok 6 (by decide)) rfl rfl (Nat.le_of_ble_eq_true rfl) dX2_builds_35 (fun H locs hP hD hS => ?_)
  have hP : va_P D zCl (cW k au (wd_s_stones su_2 v_3)) H := hP
  have hD : va_D A (cW k au (wd_s_stones su_2 v_3)) := hD
  obtain ⟨su_4, esu_4⟩ : ∃ z : Wd, z = (wd_s_stones su_2 v_3) := ⟨_, rfl⟩
  rw [← esu_4] at hP hD
  have hrun := mlt_s hrun su_4 esu_4
  cases hrun
  exact retW_v hx hb hr hlocks hP hD hS ⟨rfl, rfl⟩ dX2_builds_38
def rX2_ends : Room := { frames := 1, cells := 0, slots := 0, locals := 40 }
noncomputable def fX2_ends (su : Wd) : Option (Wd) :=
  mlt (zmn (9999 : Int32) ((wd_day su) + (1 : Int32))) fun v_1 =>
  mlt (wd_s_day su v_1) fun su_2 =>
  some su_2
theorem kX2_ends {R : Room} {s : State} {args : Array Value} {own : String} {idx mc ms : Nat} {rm : Room} (hts : ∀ w ∈ lw_all, w.before args s = true) (hl : Cond.methodLink own idx yX2_ends ∈ lw_all) (hrc : rm.cells = mc) (hrs : rm.slots = ms) (hR : rm.frames + 1 ≤ R.frames ∧ 8 + (1 + 11) + rm.locals ≤ R.locals) : CallW R s args own RX2 idx yX2_ends cX2_ends 1 none (ws_ yX2_ends cX2_ends 1 none) rm mc ms 0 :=
  cwV 0 hts (lw_V hl q560 q561 q108 q562) rfl hrc hrs (by decide +kernel) hR
set_option maxHeartbeats 4000000 in
set_option maxRecDepth 100000 in
theorem mtX2_ends (l : Launch) (D : va_G) (k : Nat → ClassId) (au : Nat → Nat) (Z : zZ) (hOK : zOK D zCl (zTys k) Z) (su : Wd) (ou : Wd) (hrun : fX2_ends su = some ou) :
    CtW l yX2_ends cX2_ends 1 none rX2_ends Z D zCl (cW k au su) [.ref (au 0)] (fun r' w' => r' = none ∧ w' = (cW k au ou)) 0 0 := by
  refine CtW.of (by decide) (Nat.le_of_ble_eq_true rfl) ?_
  intro p e s m args below meth c A hE hA hP hD hS hz ls hl
  obtain ⟨hx, hb, hr, hml, hown, hts, hlocks, hname⟩ := hE
  have hown : s.vm.findClass RX2 = some m.cls := hown
  have hK := hOK.1 _ _ _ hz
  have hN := hOK.2.1 _ _ _ hz
  have hl : lv_has ls 1 [(0, .ref (au 0))] := hl
  unfold fX2_ends at hrun
  refine lv_aload_n hx hb dX2_ends_0 rfl (lv_at hl 0 rfl) ?_
  refine lv_sipush (v := (9999 : Int32)) hx hb dX2_ends_1 (by decide) ?_
  refine lv_aload_n hx hb dX2_ends_4 rfl (lv_at hl 0 rfl) ?_
  refine va_get (ci := 2) (v := .int (wd_day su)) (C := RX2) (T := TX2) (N := 21) hx hb hts in_X2 hown hK hP 0 rfl rfl 2 (by decide) (hts _ q167) (fun _ h9 => h9) rfl dX2_ends_5 ?_
  refine lv_iconst (v := (1 : Int32)) hx hb dX2_ends_8 (by decide) ?_
  refine lv_iadd hx hb dX2_ends_9 ?_
  refine va_mmin hx hb (hml.trans hl.1.symm) hown (hts _ q549) (hts _ q550) (hts _ q122) (hts _ q551) (Nat.le_of_ble_eq_true rfl) (Nat.le_of_ble_eq_true rfl) (Nat.le_of_ble_eq_true rfl) (Nat.le_of_ble_eq_true rfl) dX2_ends_10 ?_
  refine lv_topi (fun v_1 ev_1 => ?_)
  have hrun := mlt_s hrun v_1 ev_1
  refine va_put (ci := 2) (v := .int v_1) (ty := tyX2 2) (C := RX2) (T := TX2) (N := 21) hx hb hts in_X2 tyX2 tyX2_ok nmX2 hown hK hP hD hS 0 rfl rfl 2 (by decide) (hts _ q167) (fun _ h9 => h9) rfl (tyX2_ok 2 (by decide)) rfl rfl (Nat.le_of_ble_eq_true rfl) dX2_ends_13 (fun H locs hP hD hS => ?_)
  have hP : va_P D zCl (cW k au (wd_s_day su v_1)) H := hP
  have hD : va_D A (cW k au (wd_s_day su v_1)) := hD
  obtain ⟨su_2, esu_2⟩ : ∃ z : Wd, z = (wd_s_day su v_1) := ⟨_, rfl⟩
  rw [← esu_2] at hP hD
  have hrun := mlt_s hrun su_2 esu_2
  cases hrun
  exact retW_v hx hb hr hlocks hP hD hS ⟨rfl, rfl⟩ dX2_ends_16
def rX2_spies : Room := { frames := 0, cells := 0, slots := 0, locals := 0 }
noncomputable def fX2_spies (su : Wd) (p1 : Int32) (p2 : Bool) : Option (Int32) :=
  mck p1 8 <|
  if p2 = true then
    some ((((1 : Int32) <<< (p1 &&& (31 : Int32))) ||| ((wd_holes su) (Int32.toNatClampNeg p1))) ||| (((1 : Int32) <<< ((mrm (p1 + (1 : Int32)) (8 : Int32)) &&& (31 : Int32))) ||| ((1 : Int32) <<< ((mrm ((p1 + (8 : Int32)) - (1 : Int32)) (8 : Int32)) &&& (31 : Int32)))))
  else
    some ((((1 : Int32) <<< (p1 &&& (31 : Int32))) ||| ((wd_holes su) (Int32.toNatClampNeg p1))) ||| (0 : Int32))
theorem kX2_spies {R : Room} {s : State} {args : Array Value} {own : String} {idx mc ms : Nat} {rm : Room} (hts : ∀ w ∈ lw_all, w.before args s = true) (hl : Cond.methodLink own idx yX2_spies ∈ lw_all) (hrc : rm.cells = mc) (hrs : rm.slots = ms) (hR : rm.frames + 1 ≤ R.frames ∧ 8 + (3 + 11) + rm.locals ≤ R.locals) : CallW R s args own RX2 idx yX2_spies cX2_spies 3 (some .int) (ws_ yX2_spies cX2_spies 3 (some .int)) rm mc ms 2 :=
  cwV 2 hts (lw_V hl q576 q577 q108 q578) rfl hrc hrs (by decide +kernel) hR
set_option maxHeartbeats 4000000 in
set_option maxRecDepth 100000 in
theorem mtX2_spies (l : Launch) (D : va_G) (k : Nat → ClassId) (au : Nat → Nat) (Z : zZ) (hOK : zOK D zCl (zTys k) Z) (su : Wd) (p1 : Int32) (p2 : Bool) (r : Int32) (hrun : fX2_spies su p1 p2 = some r) :
    CtR l yX2_spies cX2_spies 3 (some .int) rX2_spies Z D zCl (cW k au su) [.ref (au 0), .int p1, .int (bz p2)] (some (.int r)) := by
  refine CtR.of (by decide) (Nat.le_of_ble_eq_true rfl) ?_
  intro p e s m args below meth c hE hP hz ls hl
  obtain ⟨hx, hb, hr, hml, hown, hts, hlocks, hname⟩ := hE
  have hown : s.vm.findClass RX2 = some m.cls := hown
  have hK := hOK.1 _ _ _ hz
  have hN := hOK.2.1 _ _ _ hz
  have hl : lv_has ls 3 [(0, .ref (au 0)), (1, .int p1), (2, .int (bz p2))] := hl
  unfold fX2_spies at hrun
  refine lv_iconst (v := (1 : Int32)) hx hb dX2_spies_0 (by decide) ?_
  refine lv_iload_n hx hb dX2_spies_1 rfl (lv_at hl 1 rfl) ?_
  refine lv_ishl hx hb dX2_spies_2 ?_
  refine lv_aload_n hx hb dX2_spies_3 rfl (lv_at hl 0 rfl) ?_
  refine va_get (ci := 2) (v := .ref (au 7)) (C := RX2) (T := TX2) (N := 21) hx hb hts in_X2 hown hK hP 0 rfl rfl 18 (by decide) (hts _ q203) (fun _ h9 => h9) rfl dX2_spies_4 ?_
  refine lv_iload_n hx hb dX2_spies_7 rfl (lv_at hl 1 rfl) ?_
  obtain ⟨hb_1, hrun⟩ := mck_s rfl hrun
  refine va_iald hx hb hK hP 7 0 rfl rfl hb_1 dX2_spies_8 ?_
  refine lv_ior hx hb dX2_spies_9 ?_
  refine lv_iload_n hx hb dX2_spies_10 rfl (lv_at hl 2 rfl) ?_
  refine lv_if_eq (tgt := 37) hx hb dX2_spies_11 (by decide) (fun c_2 => ?_) (fun c_2 => ?_)
  · have hrun := mif_n (bz_z c_2) hrun
    refine lv_iconst (v := (0 : Int32)) hx hb dX2_spies_37 (by decide) ?_
    refine lv_ior hx hb dX2_spies_38 ?_
    cases hrun
    exact retR_i hx hb hr hlocks rfl dX2_spies_39
  have hrun := mif_p (bz_nz c_2) hrun
  refine lv_iconst (v := (1 : Int32)) hx hb dX2_spies_14 (by decide) ?_
  refine lv_iload_n hx hb dX2_spies_15 rfl (lv_at hl 1 rfl) ?_
  refine lv_iconst (v := (1 : Int32)) hx hb dX2_spies_16 (by decide) ?_
  refine lv_iadd hx hb dX2_spies_17 ?_
  refine lv_bipush (v := (8 : Int32)) hx hb dX2_spies_18 (by decide) ?_
  refine lv_irem hx hb dX2_spies_20 (by decide) ?_
  refine lv_ishl hx hb dX2_spies_21 ?_
  refine lv_iconst (v := (1 : Int32)) hx hb dX2_spies_22 (by decide) ?_
  refine lv_iload_n hx hb dX2_spies_23 rfl (lv_at hl 1 rfl) ?_
  refine lv_bipush (v := (8 : Int32)) hx hb dX2_spies_24 (by decide) ?_
  refine lv_iadd hx hb dX2_spies_26 ?_
  refine lv_iconst (v := (1 : Int32)) hx hb dX2_spies_27 (by decide) ?_
  refine lv_isub hx hb dX2_spies_28 ?_
  refine lv_bipush (v := (8 : Int32)) hx hb dX2_spies_29 (by decide) ?_
  refine lv_irem hx hb dX2_spies_31 (by decide) ?_
  refine lv_ishl hx hb dX2_spies_32 ?_
  refine lv_ior hx hb dX2_spies_33 ?_
  refine lv_goto (tgt := 38) hx hb dX2_spies_34 (by decide) ?_
  refine lv_ior hx hb dX2_spies_38 ?_
  cases hrun
  exact retR_i hx hb hr hlocks rfl dX2_spies_39
def rX2_risk : Room := { frames := 0, cells := 0, slots := 0, locals := 0 }
noncomputable def fX2_risk (su : Wd) (p1 : Int32) : Option (Int32) :=
  mck p1 8 <|
  if ((wd_doubt su) (Int32.toNatClampNeg p1)) < (50 : Int32) then
    mck p1 8 <|
    some (((wd_wish su) (Int32.toNatClampNeg p1)) / (2 : Int32))
  else
    mck p1 8 <|
    some ((wd_wish su) (Int32.toNatClampNeg p1))
theorem kX2_risk {R : Room} {s : State} {args : Array Value} {own : String} {idx mc ms : Nat} {rm : Room} (hts : ∀ w ∈ lw_all, w.before args s = true) (hl : Cond.methodLink own idx yX2_risk ∈ lw_all) (hrc : rm.cells = mc) (hrs : rm.slots = ms) (hR : rm.frames + 1 ≤ R.frames ∧ 8 + (2 + 11) + rm.locals ≤ R.locals) : CallW R s args own RX2 idx yX2_risk cX2_risk 2 (some .int) (ws_ yX2_risk cX2_risk 2 (some .int)) rm mc ms 1 :=
  cwV 1 hts (lw_V hl q588 q589 q108 q590) rfl hrc hrs (by decide +kernel) hR
set_option maxHeartbeats 4000000 in
set_option maxRecDepth 100000 in
theorem mtX2_risk (l : Launch) (D : va_G) (k : Nat → ClassId) (au : Nat → Nat) (Z : zZ) (hOK : zOK D zCl (zTys k) Z) (su : Wd) (p1 : Int32) (r : Int32) (hrun : fX2_risk su p1 = some r) :
    CtR l yX2_risk cX2_risk 2 (some .int) rX2_risk Z D zCl (cW k au su) [.ref (au 0), .int p1] (some (.int r)) := by
  refine CtR.of (by decide) (Nat.le_of_ble_eq_true rfl) ?_
  intro p e s m args below meth c hE hP hz ls hl
  obtain ⟨hx, hb, hr, hml, hown, hts, hlocks, hname⟩ := hE
  have hown : s.vm.findClass RX2 = some m.cls := hown
  have hK := hOK.1 _ _ _ hz
  have hN := hOK.2.1 _ _ _ hz
  have hl : lv_has ls 2 [(0, .ref (au 0)), (1, .int p1)] := hl
  unfold fX2_risk at hrun
  refine lv_aload_n hx hb dX2_risk_0 rfl (lv_at hl 0 rfl) ?_
  refine va_get (ci := 2) (v := .ref (au 4)) (C := RX2) (T := TX2) (N := 21) hx hb hts in_X2 hown hK hP 0 rfl rfl 15 (by decide) (hts _ q195) (fun _ h9 => h9) rfl dX2_risk_1 ?_
  refine lv_iload_n hx hb dX2_risk_4 rfl (lv_at hl 1 rfl) ?_
  obtain ⟨hb_1, hrun⟩ := mck_s rfl hrun
  refine va_iald hx hb hK hP 4 0 rfl rfl hb_1 dX2_risk_5 ?_
  refine lv_bipush (v := (50 : Int32)) hx hb dX2_risk_6 (by decide) ?_
  refine lv_icmp_lt (tgt := 20) hx hb dX2_risk_8 (by decide) (fun c_2 => ?_) (fun c_2 => ?_)
  · have hrun := mif_p c_2 hrun
    refine lv_aload_n hx hb dX2_risk_20 rfl (lv_at hl 0 rfl) ?_
    refine va_get (ci := 2) (v := .ref (au 3)) (C := RX2) (T := TX2) (N := 21) hx hb hts in_X2 hown hK hP 0 rfl rfl 14 (by decide) (hts _ q193) (fun _ h9 => h9) rfl dX2_risk_21 ?_
    refine lv_iload_n hx hb dX2_risk_24 rfl (lv_at hl 1 rfl) ?_
    obtain ⟨hb_3, hrun⟩ := mck_s rfl hrun
    refine va_iald hx hb hK hP 3 0 rfl rfl hb_3 dX2_risk_25 ?_
    refine lv_iconst (v := (2 : Int32)) hx hb dX2_risk_26 (by decide) ?_
    refine lv_idiv hx hb dX2_risk_27 (by decide) ?_
    cases hrun
    exact retR_i hx hb hr hlocks rfl dX2_risk_28
  have hrun := mif_n c_2 hrun
  refine lv_aload_n hx hb dX2_risk_11 rfl (lv_at hl 0 rfl) ?_
  refine va_get (ci := 2) (v := .ref (au 3)) (C := RX2) (T := TX2) (N := 21) hx hb hts in_X2 hown hK hP 0 rfl rfl 14 (by decide) (hts _ q193) (fun _ h9 => h9) rfl dX2_risk_12 ?_
  refine lv_iload_n hx hb dX2_risk_15 rfl (lv_at hl 1 rfl) ?_
  obtain ⟨hb_4, hrun⟩ := mck_s rfl hrun
  refine va_iald hx hb hK hP 3 0 rfl rfl hb_4 dX2_risk_16 ?_
  refine lv_goto (tgt := 28) hx hb dX2_risk_17 (by decide) ?_
  cases hrun
  exact retR_i hx hb hr hlocks rfl dX2_risk_28
