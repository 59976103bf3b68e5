/-! walks: X2_inside, X2_hereOnes, X2_into, X2_allHoles, X2_doubtOfAll, X2_draw -/
def rX2_inside : Room := { frames := 0, cells := 0, slots := 0, locals := 0 }
noncomputable def fX2_inside_L4 (su : Wd) (p1 : Int32) : Nat → Int32 → Int32 → Option (Int32)
  | 0, _, _ => none
  | n + 1, x2_2, x3_3 =>
    if (wd_guests su) ≤ x3_3 then
      some x2_2
    else
      mck x3_3 8 <|
      if ((wd_here su) (Int32.toNatClampNeg x3_3)) = true then
        mck x3_3 8 <|
        if ((wd_room su) (Int32.toNatClampNeg x3_3)) = p1 then
          fX2_inside_L4 su p1 n (x2_2 ||| ((1 : Int32) <<< (x3_3 &&& (31 : Int32)))) (x3_3 + (1 : Int32))
        else
          fX2_inside_L4 su p1 n (x2_2 ||| (0 : Int32)) (x3_3 + (1 : Int32))
      else
        fX2_inside_L4 su p1 n (x2_2 ||| (0 : Int32)) (x3_3 + (1 : Int32))
noncomputable def fX2_inside (su : Wd) (p1 : Int32) : Option (Int32) :=
  fX2_inside_L4 su p1 mFU (0 : Int32) (0 : Int32)
theorem kX2_inside {R : Room} {s : State} {args : Array Value} {own : String} {idx mc ms : Nat} {rm : Room} (hts : ∀ w ∈ lw_all, w.before args s = true) (hl : Cond.methodLink own idx yX2_inside ∈ lw_all) (hrc : rm.cells = mc) (hrs : rm.slots = ms) (hR : rm.frames + 1 ≤ R.frames ∧ 8 + (4 + 11) + rm.locals ≤ R.locals) : CallW R s args own RX2 idx yX2_inside cX2_inside 4 (some .int) (ws_ yX2_inside cX2_inside 4 (some .int)) rm mc ms 1 :=
  cwV 1 hts (lw_V hl q602 q603 q108 q604) rfl hrc hrs (by decide +kernel) hR
set_option maxHeartbeats 4000000 in
set_option maxRecDepth 100000 in
theorem mtX2_inside (l : Launch) (D : va_G) (k : Nat → ClassId) (au : Nat → Nat) (Z : zZ) (hOK : zOK D zCl (zTys k) Z) (su : Wd) (p1 : Int32) (r : Int32) (hrun : fX2_inside su p1 = some r) :
    CtR l yX2_inside cX2_inside 4 (some .int) rX2_inside Z D zCl (cW k au su) [.ref (au 0), .int p1] (some (.int r)) := by
  refine CtR.of (by decide) (Nat.le_of_ble_eq_true rfl) ?_
  intro p e s m args below meth c hE hP hz ls hl
  obtain ⟨hx, hb, hr, hml, hown, hts, hlocks, hname⟩ := hE
  have hown : s.vm.findClass RX2 = some m.cls := hown
  have hK := hOK.1 _ _ _ hz
  have hN := hOK.2.1 _ _ _ hz
  have hl : lv_has ls 4 [(0, .ref (au 0)), (1, .int p1)] := hl
  unfold fX2_inside at hrun
  refine lv_iconst (v := (0 : Int32)) hx hb dX2_inside_0 (by decide) ?_
  refine lv_istore_n (lv' := [(2, .int (0 : Int32)), (0, .ref (au 0)), (1, .int p1)]) hx hb dX2_inside_1 rfl hl (by decide) rfl (fun ls hl => ?_)
  refine lv_iconst (v := (0 : Int32)) hx hb dX2_inside_2 (by decide) ?_
  refine lv_istore_n (lv' := [(3, .int (0 : Int32)), (2, .int (0 : Int32)), (0, .ref (au 0)), (1, .int p1)]) hx hb dX2_inside_3 rfl hl (by decide) rfl (fun ls hl => ?_)
  have hL_1 : ∀ n : Nat, ∀ (x2_2 : Int32) (x3_3 : Int32), ∀ ls : Array Slot, lv_has ls 4 [(0, .ref (au 0)), (1, .int p1), (2, .int x2_2), (3, .int x3_3)] → fX2_inside_L4 su p1 n x2_2 x3_3 = some r → W p l e rX2_inside s m args below meth c s.heap [] 0 0 (MQ below (QRr (some (.int r))) args s 0 0 (fun _ => False)) (F0 m 4 ls []) := by
    intro n
    induction n with
    | zero =>
      intro x2_2 x3_3 ls hl hrun
      exact nomatch hrun
    | succ n ih =>
      intro x2_2 x3_3 ls hl hrun
      rw [fX2_inside_L4.eq_2] at hrun
      refine lv_iload_n hx hb dX2_inside_4 rfl (lv_at hl 3 rfl) ?_
      refine lv_aload_n hx hb dX2_inside_5 rfl (lv_at hl 0 rfl) ?_
      refine va_get (ci := 2) (v := .int (wd_guests su)) (C := RX2) (T := TX2) (N := 21) hx hb hts in_X2 hown hK hP 0 rfl rfl 1 (by decide) (hts _ q164) (fun _ h9 => h9) rfl dX2_inside_6 ?_
      refine lv_icmp_ge (tgt := 47) hx hb dX2_inside_9 (by decide) (fun c_4 => ?_) (fun c_4 => ?_)
      · have hrun := mif_p c_4 hrun
        refine lv_iload_n hx hb dX2_inside_47 rfl (lv_at hl 2 rfl) ?_
        cases hrun
        exact retR_i hx hb hr hlocks rfl dX2_inside_48
      have hrun := mif_n c_4 hrun
      refine lv_iload_n hx hb dX2_inside_12 rfl (lv_at hl 2 rfl) ?_
      refine lv_aload_n hx hb dX2_inside_13 rfl (lv_at hl 0 rfl) ?_
      refine va_get (ci := 2) (v := .ref (au 6)) (C := RX2) (T := TX2) (N := 21) hx hb hts in_X2 hown hK hP 0 rfl rfl 17 (by decide) (hts _ q200) (fun _ h9 => h9) rfl dX2_inside_14 ?_
      refine lv_iload_n hx hb dX2_inside_17 rfl (lv_at hl 3 rfl) ?_
      obtain ⟨hb_5, hrun⟩ := mck_s rfl hrun
      refine va_zald hx hb hK hP 6 1 rfl rfl hb_5 dX2_inside_18 ?_
      refine lv_if_eq (tgt := 38) hx hb dX2_inside_19 (by decide) (fun c_6 => ?_) (fun c_6 => ?_)
      · have hrun := mif_n (bz_z c_6) hrun
        refine lv_iconst (v := (0 : Int32)) hx hb dX2_inside_38 (by decide) ?_
        refine lv_ior hx hb dX2_inside_39 ?_
        refine lv_istore_n (lv' := [(2, .int (x2_2 ||| (0 : Int32))), (0, .ref (au 0)), (1, .int p1), (3, .int x3_3)]) hx hb dX2_inside_40 rfl hl (by decide) rfl (fun ls hl => ?_)
        refine lv_iinc (v := (x3_3 + (1 : Int32))) (lv' := [(3, .int (x3_3 + (1 : Int32))), (2, .int (x2_2 ||| (0 : Int32))), (0, .ref (au 0)), (1, .int p1)]) hx hb dX2_inside_41 hl (k := 3) rfl rfl (by decide) rfl (fun ls hl => ?_)
        refine lv_goto (tgt := 4) hx hb dX2_inside_44 (by decide) ?_
        exact ih (x2_2 ||| (0 : Int32)) (x3_3 + (1 : Int32)) ls (lv_sub hl [2, 3, 1, 0] rfl) hrun
      have hrun := mif_p (bz_nz c_6) hrun
      refine lv_aload_n hx hb dX2_inside_22 rfl (lv_at hl 0 rfl) ?_
      refine va_get (ci := 2) (v := .ref (au 2)) (C := RX2) (T := TX2) (N := 21) hx hb hts in_X2 hown hK hP 0 rfl rfl 13 (by decide) (hts _ q190) (fun _ h9 => h9) rfl dX2_inside_23 ?_
      refine lv_iload_n hx hb dX2_inside_26 rfl (lv_at hl 3 rfl) ?_
      obtain ⟨hb_7, hrun⟩ := mck_s rfl hrun
      refine va_iald hx hb hK hP 2 0 rfl rfl hb_7 dX2_inside_27 ?_
      refine lv_iload_n hx hb dX2_inside_28 rfl (lv_at hl 1 rfl) ?_
      refine lv_icmp_ne (tgt := 38) hx hb dX2_inside_29 (by decide) (fun c_8 => ?_) (fun c_8 => ?_)
      · have hrun := mif_n c_8 hrun
        refine lv_iconst (v := (0 : Int32)) hx hb dX2_inside_38 (by decide) ?_
        refine lv_ior hx hb dX2_inside_39 ?_
        refine lv_istore_n (lv' := [(2, .int (x2_2 ||| (0 : Int32))), (0, .ref (au 0)), (1, .int p1), (3, .int x3_3)]) hx hb dX2_inside_40 rfl hl (by decide) rfl (fun ls hl => ?_)
        refine lv_iinc (v := (x3_3 + (1 : Int32))) (lv' := [(3, .int (x3_3 + (1 : Int32))), (2, .int (x2_2 ||| (0 : Int32))), (0, .ref (au 0)), (1, .int p1)]) hx hb dX2_inside_41 hl (k := 3) rfl rfl (by decide) rfl (fun ls hl => ?_)
        refine lv_goto (tgt := 4) hx hb dX2_inside_44 (by decide) ?_
        exact ih (x2_2 ||| (0 : Int32)) (x3_3 + (1 : Int32)) ls (lv_sub hl [2, 3, 1, 0] rfl) hrun
      have hrun := mif_p c_8 hrun
      refine lv_iconst (v := (1 : Int32)) hx hb dX2_inside_32 (by decide) ?_
      refine lv_iload_n hx hb dX2_inside_33 rfl (lv_at hl 3 rfl) ?_
      refine lv_ishl hx hb dX2_inside_34 ?_
      refine lv_goto (tgt := 39) hx hb dX2_inside_35 (by decide) ?_
      refine lv_ior hx hb dX2_inside_39 ?_
      refine lv_istore_n (lv' := [(2, .int (x2_2 ||| ((1 : Int32) <<< (x3_3 &&& (31 : Int32))))), (0, .ref (au 0)), (1, .int p1), (3, .int x3_3)]) hx hb dX2_inside_40 rfl hl (by decide) rfl (fun ls hl => ?_)
      refine lv_iinc (v := (x3_3 + (1 : Int32))) (lv' := [(3, .int (x3_3 + (1 : Int32))), (2, .int (x2_2 ||| ((1 : Int32) <<< (x3_3 &&& (31 : Int32))))), (0, .ref (au 0)), (1, .int p1)]) hx hb dX2_inside_41 hl (k := 3) rfl rfl (by decide) rfl (fun ls hl => ?_)
      refine lv_goto (tgt := 4) hx hb dX2_inside_44 (by decide) ?_
      exact ih (x2_2 ||| ((1 : Int32) <<< (x3_3 &&& (31 : Int32)))) (x3_3 + (1 : Int32)) ls (lv_sub hl [2, 3, 1, 0] rfl) hrun
  exact hL_1 mFU (0 : Int32) (0 : Int32) ls (lv_sub hl [2, 3, 1, 0] rfl) hrun
def rX2_hereOnes : Room := { frames := 0, cells := 0, slots := 0, locals := 0 }
noncomputable def fX2_hereOnes_L4 (su : Wd) : Nat → Int32 → Int32 → Option (Int32)
  | 0, _, _ => none
  | n + 1, x1_2, x2_3 =>
    if (wd_guests su) ≤ x2_3 then
      some x1_2
    else
      mck x2_3 8 <|
      if ((wd_here su) (Int32.toNatClampNeg x2_3)) = true then
        fX2_hereOnes_L4 su n (x1_2 ||| ((1 : Int32) <<< (x2_3 &&& (31 : Int32)))) (x2_3 + (1 : Int32))
      else
        fX2_hereOnes_L4 su n (x1_2 ||| (0 : Int32)) (x2_3 + (1 : Int32))
noncomputable def fX2_hereOnes (su : Wd) : Option (Int32) :=
  fX2_hereOnes_L4 su mFU (0 : Int32) (0 : Int32)
theorem kX2_hereOnes {R : Room} {s : State} {args : Array Value} {own : String} {idx mc ms : Nat} {rm : Room} (hts : ∀ w ∈ lw_all, w.before args s = true) (hl : Cond.methodLink own idx yX2_hereOnes ∈ lw_all) (hrc : rm.cells = mc) (hrs : rm.slots = ms) (hR : rm.frames + 1 ≤ R.frames ∧ 8 + (3 + 11) + rm.locals ≤ R.locals) : CallW R s args own RX2 idx yX2_hereOnes cX2_hereOnes 3 (some .int) (ws_ yX2_hereOnes cX2_hereOnes 3 (some .int)) rm mc ms 0 :=
  cwV 0 hts (lw_V hl q644 q645 q108 q646) rfl hrc hrs (by decide +kernel) hR
set_option maxHeartbeats 4000000 in
set_option maxRecDepth 100000 in
theorem mtX2_hereOnes (l : Launch) (D : va_G) (k : Nat → ClassId) (au : Nat → Nat) (Z : zZ) (hOK : zOK D zCl (zTys k) Z) (su : Wd) (r : Int32) (hrun : fX2_hereOnes su = some r) :
    CtR l yX2_hereOnes cX2_hereOnes 3 (some .int) rX2_hereOnes Z D zCl (cW k au su) [.ref (au 0)] (some (.int r)) := by
  refine CtR.of (by decide) (Nat.le_of_ble_eq_true rfl) ?_
  intro p e s m args below meth c hE hP hz ls hl
  obtain ⟨hx, hb, hr, hml, hown, hts, hlocks, hname⟩ := hE
  have hown : s.vm.findClass RX2 = some m.cls := hown
  have hK := hOK.1 _ _ _ hz
  have hN := hOK.2.1 _ _ _ hz
  have hl : lv_has ls 3 [(0, .ref (au 0))] := hl
  unfold fX2_hereOnes at hrun
  refine lv_iconst (v := (0 : Int32)) hx hb dX2_hereOnes_0 (by decide) ?_
  refine lv_istore_n (lv' := [(1, .int (0 : Int32)), (0, .ref (au 0))]) hx hb dX2_hereOnes_1 rfl hl (by decide) rfl (fun ls hl => ?_)
  refine lv_iconst (v := (0 : Int32)) hx hb dX2_hereOnes_2 (by decide) ?_
  refine lv_istore_n (lv' := [(2, .int (0 : Int32)), (1, .int (0 : Int32)), (0, .ref (au 0))]) hx hb dX2_hereOnes_3 rfl hl (by decide) rfl (fun ls hl => ?_)
  have hL_1 : ∀ n : Nat, ∀ (x1_2 : Int32) (x2_3 : Int32), ∀ ls : Array Slot, lv_has ls 3 [(0, .ref (au 0)), (1, .int x1_2), (2, .int x2_3)] → fX2_hereOnes_L4 su n x1_2 x2_3 = some r → W p l e rX2_hereOnes s m args below meth c s.heap [] 0 0 (MQ below (QRr (some (.int r))) args s 0 0 (fun _ => False)) (F0 m 4 ls []) := by
    intro n
    induction n with
    | zero =>
      intro x1_2 x2_3 ls hl hrun
      exact nomatch hrun
    | succ n ih =>
      intro x1_2 x2_3 ls hl hrun
      rw [fX2_hereOnes_L4.eq_2] at hrun
      refine lv_iload_n hx hb dX2_hereOnes_4 rfl (lv_at hl 2 rfl) ?_
      refine lv_aload_n hx hb dX2_hereOnes_5 rfl (lv_at hl 0 rfl) ?_
      refine va_get (ci := 2) (v := .int (wd_guests su)) (C := RX2) (T := TX2) (N := 21) hx hb hts in_X2 hown hK hP 0 rfl rfl 1 (by decide) (hts _ q164) (fun _ h9 => h9) rfl dX2_hereOnes_6 ?_
      refine lv_icmp_ge (tgt := 37) hx hb dX2_hereOnes_9 (by decide) (fun c_4 => ?_) (fun c_4 => ?_)
      · have hrun := mif_p c_4 hrun
        refine lv_iload_n hx hb dX2_hereOnes_37 rfl (lv_at hl 1 rfl) ?_
        cases hrun
        exact retR_i hx hb hr hlocks rfl dX2_hereOnes_38
      have hrun := mif_n c_4 hrun
      refine lv_iload_n hx hb dX2_hereOnes_12 rfl (lv_at hl 1 rfl) ?_
      refine lv_aload_n hx hb dX2_hereOnes_13 rfl (lv_at hl 0 rfl) ?_
      refine va_get (ci := 2) (v := .ref (au 6)) (C := RX2) (T := TX2) (N := 21) hx hb hts in_X2 hown hK hP 0 rfl rfl 17 (by decide) (hts _ q200) (fun _ h9 => h9) rfl dX2_hereOnes_14 ?_
      refine lv_iload_n hx hb dX2_hereOnes_17 rfl (lv_at hl 2 rfl) ?_
      obtain ⟨hb_5, hrun⟩ := mck_s rfl hrun
      refine va_zald hx hb hK hP 6 1 rfl rfl hb_5 dX2_hereOnes_18 ?_
      refine lv_if_eq (tgt := 28) hx hb dX2_hereOnes_19 (by decide) (fun c_6 => ?_) (fun c_6 => ?_)
      · have hrun := mif_n (bz_z c_6) hrun
        refine lv_iconst (v := (0 : Int32)) hx hb dX2_hereOnes_28 (by decide) ?_
        refine lv_ior hx hb dX2_hereOnes_29 ?_
        refine lv_istore_n (lv' := [(1, .int (x1_2 ||| (0 : Int32))), (0, .ref (au 0)), (2, .int x2_3)]) hx hb dX2_hereOnes_30 rfl hl (by decide) rfl (fun ls hl => ?_)
        refine lv_iinc (v := (x2_3 + (1 : Int32))) (lv' := [(2, .int (x2_3 + (1 : Int32))), (1, .int (x1_2 ||| (0 : Int32))), (0, .ref (au 0))]) hx hb dX2_hereOnes_31 hl (k := 2) rfl rfl (by decide) rfl (fun ls hl => ?_)
        refine lv_goto (tgt := 4) hx hb dX2_hereOnes_34 (by decide) ?_
        exact ih (x1_2 ||| (0 : Int32)) (x2_3 + (1 : Int32)) ls (lv_sub hl [2, 1, 0] rfl) hrun
      have hrun := mif_p (bz_nz c_6) hrun
      refine lv_iconst (v := (1 : Int32)) hx hb dX2_hereOnes_22 (by decide) ?_
      refine lv_iload_n hx hb dX2_hereOnes_23 rfl (lv_at hl 2 rfl) ?_
      refine lv_ishl hx hb dX2_hereOnes_24 ?_
      refine lv_goto (tgt := 29) hx hb dX2_hereOnes_25 (by decide) ?_
      refine lv_ior hx hb dX2_hereOnes_29 ?_
      refine lv_istore_n (lv' := [(1, .int (x1_2 ||| ((1 : Int32) <<< (x2_3 &&& (31 : Int32))))), (0, .ref (au 0)), (2, .int x2_3)]) hx hb dX2_hereOnes_30 rfl hl (by decide) rfl (fun ls hl => ?_)
      refine lv_iinc (v := (x2_3 + (1 : Int32))) (lv' := [(2, .int (x2_3 + (1 : Int32))), (1, .int (x1_2 ||| ((1 : Int32) <<< (x2_3 &&& (31 : Int32))))), (0, .ref (au 0))]) hx hb dX2_hereOnes_31 hl (k := 2) rfl rfl (by decide) rfl (fun ls hl => ?_)
      refine lv_goto (tgt := 4) hx hb dX2_hereOnes_34 (by decide) ?_
      exact ih (x1_2 ||| ((1 : Int32) <<< (x2_3 &&& (31 : Int32)))) (x2_3 + (1 : Int32)) ls (lv_sub hl [2, 1, 0] rfl) hrun
  exact hL_1 mFU (0 : Int32) (0 : Int32) ls (lv_sub hl [2, 1, 0] rfl) hrun
def rX2_into : Room := { frames := 1, cells := 0, slots := 0, locals := 21 }
noncomputable def fX2_into_L4 (su : Wd) (p1 : Int32) : Nat → Int32 → Int32 → Option (Int32)
  | 0, _, _ => none
  | n + 1, x2_2, x3_3 =>
    if (8 : Int32) ≤ x3_3 then
      some x2_2
    else
      mck x3_3 8 <|
      mob (fX1_has ((wd_holes su) (Int32.toNatClampNeg x3_3)) p1) fun r_7 =>
      if r_7 = true then
        fX2_into_L4 su p1 n (x2_2 ||| ((1 : Int32) <<< (x3_3 &&& (31 : Int32)))) (x3_3 + (1 : Int32))
      else
        fX2_into_L4 su p1 n (x2_2 ||| (0 : Int32)) (x3_3 + (1 : Int32))
noncomputable def fX2_into (su : Wd) (p1 : Int32) : Option (Int32) :=
  fX2_into_L4 su p1 mFU (0 : Int32) (0 : Int32)
theorem kX2_into {R : Room} {s : State} {args : Array Value} {own : String} {idx mc ms : Nat} {rm : Room} (hts : ∀ w ∈ lw_all, w.before args s = true) (hl : Cond.methodLink own idx yX2_into ∈ lw_all) (hrc : rm.cells = mc) (hrs : rm.slots = ms) (hR : rm.frames + 1 ≤ R.frames ∧ 8 + (4 + 11) + rm.locals ≤ R.locals) : CallW R s args own RX2 idx yX2_into cX2_into 4 (some .int) (ws_ yX2_into cX2_into 4 (some .int)) rm mc ms 1 :=
  cwV 1 hts (lw_V hl q695 q696 q108 q697) rfl hrc hrs (by decide +kernel) hR
set_option maxHeartbeats 4000000 in
set_option maxRecDepth 100000 in
theorem mtX2_into (l : Launch) (D : va_G) (k : Nat → ClassId) (au : Nat → Nat) (Z : zZ) (hOK : zOK D zCl (zTys k) Z) (su : Wd) (p1 : Int32) (r : Int32) (hrun : fX2_into su p1 = some r) :
    CtR l yX2_into cX2_into 4 (some .int) rX2_into Z D zCl (cW k au su) [.ref (au 0), .int p1] (some (.int r)) := by
  refine CtR.of (by decide) (Nat.le_of_ble_eq_true rfl) ?_
  intro p e s m args below meth c hE hP hz ls hl
  obtain ⟨hx, hb, hr, hml, hown, hts, hlocks, hname⟩ := hE
  have hown : s.vm.findClass RX2 = some m.cls := hown
  have hK := hOK.1 _ _ _ hz
  have hN := hOK.2.1 _ _ _ hz
  have hl : lv_has ls 4 [(0, .ref (au 0)), (1, .int p1)] := hl
  unfold fX2_into at hrun
  refine lv_iconst (v := (0 : Int32)) hx hb dX2_into_0 (by decide) ?_
  refine lv_istore_n (lv' := [(2, .int (0 : Int32)), (0, .ref (au 0)), (1, .int p1)]) hx hb dX2_into_1 rfl hl (by decide) rfl (fun ls hl => ?_)
  refine lv_iconst (v := (0 : Int32)) hx hb dX2_into_2 (by decide) ?_
  refine lv_istore_n (lv' := [(3, .int (0 : Int32)), (2, .int (0 : Int32)), (0, .ref (au 0)), (1, .int p1)]) hx hb dX2_into_3 rfl hl (by decide) rfl (fun ls hl => ?_)
  have hL_1 : ∀ n : Nat, ∀ (x2_2 : Int32) (x3_3 : Int32), ∀ ls : Array Slot, lv_has ls 4 [(0, .ref (au 0)), (1, .int p1), (2, .int x2_2), (3, .int x3_3)] → fX2_into_L4 su p1 n x2_2 x3_3 = some r → W p l e rX2_into s m args below meth c s.heap [] 0 0 (MQ below (QRr (some (.int r))) args s 0 0 (fun _ => False)) (F0 m 4 ls []) := by
    intro n
    induction n with
    | zero =>
      intro x2_2 x3_3 ls hl hrun
      exact nomatch hrun
    | succ n ih =>
      intro x2_2 x3_3 ls hl hrun
      rw [fX2_into_L4.eq_2] at hrun
      refine lv_iload_n hx hb dX2_into_4 rfl (lv_at hl 3 rfl) ?_
      refine lv_bipush (v := (8 : Int32)) hx hb dX2_into_5 (by decide) ?_
      refine lv_icmp_ge (tgt := 39) hx hb dX2_into_7 (by decide) (fun c_4 => ?_) (fun c_4 => ?_)
      · have hrun := mif_p c_4 hrun
        refine lv_iload_n hx hb dX2_into_39 rfl (lv_at hl 2 rfl) ?_
        cases hrun
        exact retR_i hx hb hr hlocks rfl dX2_into_40
      have hrun := mif_n c_4 hrun
      refine lv_iload_n hx hb dX2_into_10 rfl (lv_at hl 2 rfl) ?_
      refine lv_aload_n hx hb dX2_into_11 rfl (lv_at hl 0 rfl) ?_
      refine va_get (ci := 2) (v := .ref (au 7)) (C := RX2) (T := TX2) (N := 21) hx hb hts in_X2 hown hK hP 0 rfl rfl 18 (by decide) (hts _ q203) (fun _ h9 => h9) rfl dX2_into_12 ?_
      refine lv_iload_n hx hb dX2_into_15 rfl (lv_at hl 3 rfl) ?_
      obtain ⟨hb_5, hrun⟩ := mck_s rfl hrun
      refine va_iald hx hb hK hP 7 0 rfl rfl hb_5 dX2_into_16 ?_
      refine lv_iload_n hx hb dX2_into_17 rfl (lv_at hl 1 rfl) ?_
      obtain ⟨r_7, hc_6, hrun⟩ := mob_s rfl hrun
      refine cRSN (ws := []) (As := [.int ((wd_holes su) (Int32.toNatClampNeg x3_3)), .int p1]) ⟨hx, hb, hml, hown, hts⟩ hOK hz va_S.rf zP0 (mtX1_has l D Z hOK _ _ _ hc_6) (kX1_hasn hN hts (hN _ (zN_of q579 rfl)) rfl rfl ⟨Nat.le_of_ble_eq_true rfl, Nat.le_of_ble_eq_true rfl⟩) rfl hl.1 rfl (lv_room (Nat.le_of_ble_eq_true rfl)) ⟨Nat.le_of_ble_eq_true rfl, Nat.le_of_ble_eq_true rfl⟩ dX2_into_18 ?_
      refine lv_if_eq (tgt := 30) hx hb dX2_into_21 (by decide) (fun c_8 => ?_) (fun c_8 => ?_)
      · have hrun := mif_n (bz_z c_8) hrun
        refine lv_iconst (v := (0 : Int32)) hx hb dX2_into_30 (by decide) ?_
        refine lv_ior hx hb dX2_into_31 ?_
        refine lv_istore_n (lv' := [(2, .int (x2_2 ||| (0 : Int32))), (0, .ref (au 0)), (1, .int p1), (3, .int x3_3)]) hx hb dX2_into_32 rfl hl (by decide) rfl (fun ls hl => ?_)
        refine lv_iinc (v := (x3_3 + (1 : Int32))) (lv' := [(3, .int (x3_3 + (1 : Int32))), (2, .int (x2_2 ||| (0 : Int32))), (0, .ref (au 0)), (1, .int p1)]) hx hb dX2_into_33 hl (k := 3) rfl rfl (by decide) rfl (fun ls hl => ?_)
        refine lv_goto (tgt := 4) hx hb dX2_into_36 (by decide) ?_
        exact ih (x2_2 ||| (0 : Int32)) (x3_3 + (1 : Int32)) ls (lv_sub hl [2, 3, 1, 0] rfl) hrun
      have hrun := mif_p (bz_nz c_8) hrun
      refine lv_iconst (v := (1 : Int32)) hx hb dX2_into_24 (by decide) ?_
      refine lv_iload_n hx hb dX2_into_25 rfl (lv_at hl 3 rfl) ?_
      refine lv_ishl hx hb dX2_into_26 ?_
      refine lv_goto (tgt := 31) hx hb dX2_into_27 (by decide) ?_
      refine lv_ior hx hb dX2_into_31 ?_
      refine lv_istore_n (lv' := [(2, .int (x2_2 ||| ((1 : Int32) <<< (x3_3 &&& (31 : Int32))))), (0, .ref (au 0)), (1, .int p1), (3, .int x3_3)]) hx hb dX2_into_32 rfl hl (by decide) rfl (fun ls hl => ?_)
      refine lv_iinc (v := (x3_3 + (1 : Int32))) (lv' := [(3, .int (x3_3 + (1 : Int32))), (2, .int (x2_2 ||| ((1 : Int32) <<< (x3_3 &&& (31 : Int32))))), (0, .ref (au 0)), (1, .int p1)]) hx hb dX2_into_33 hl (k := 3) rfl rfl (by decide) rfl (fun ls hl => ?_)
      refine lv_goto (tgt := 4) hx hb dX2_into_36 (by decide) ?_
      exact ih (x2_2 ||| ((1 : Int32) <<< (x3_3 &&& (31 : Int32)))) (x3_3 + (1 : Int32)) ls (lv_sub hl [2, 3, 1, 0] rfl) hrun
  exact hL_1 mFU (0 : Int32) (0 : Int32) ls (lv_sub hl [2, 3, 1, 0] rfl) hrun
def rX2_allHoles : Room := { frames := 1, cells := 0, slots := 0, locals := 20 }
noncomputable def fX2_allHoles_L4 (su : Wd) : Nat → Int32 → Int32 → Option (Int32)
  | 0, _, _ => none
  | n + 1, x1_2, x2_3 =>
    if (8 : Int32) ≤ x2_3 then
      some x1_2
    else
      mck x2_3 8 <|
      mob (fJ16_bitCount ((wd_holes su) (Int32.toNatClampNeg x2_3))) fun r_7 =>
      fX2_allHoles_L4 su n (x1_2 + r_7) (x2_3 + (1 : Int32))
noncomputable def fX2_allHoles (su : Wd) : Option (Int32) :=
  fX2_allHoles_L4 su mFU (0 : Int32) (0 : Int32)
theorem kX2_allHoles {R : Room} {s : State} {args : Array Value} {own : String} {idx mc ms : Nat} {rm : Room} (hts : ∀ w ∈ lw_all, w.before args s = true) (hl : Cond.methodLink own idx yX2_allHoles ∈ lw_all) (hrc : rm.cells = mc) (hrs : rm.slots = ms) (hR : rm.frames + 1 ≤ R.frames ∧ 8 + (3 + 11) + rm.locals ≤ R.locals) : CallW R s args own RX2 idx yX2_allHoles cX2_allHoles 3 (some .int) (ws_ yX2_allHoles cX2_allHoles 3 (some .int)) rm mc ms 0 :=
  cwV 0 hts (lw_V hl q741 q742 q108 q743) rfl hrc hrs (by decide +kernel) hR
set_option maxHeartbeats 4000000 in
set_option maxRecDepth 100000 in
theorem mtX2_allHoles (l : Launch) (D : va_G) (k : Nat → ClassId) (au : Nat → Nat) (Z : zZ) (hOK : zOK D zCl (zTys k) Z) (su : Wd) (r : Int32) (hrun : fX2_allHoles su = some r) :
    CtR l yX2_allHoles cX2_allHoles 3 (some .int) rX2_allHoles Z D zCl (cW k au su) [.ref (au 0)] (some (.int r)) := by
  refine CtR.of (by decide) (Nat.le_of_ble_eq_true rfl) ?_
  intro p e s m args below meth c hE hP hz ls hl
  obtain ⟨hx, hb, hr, hml, hown, hts, hlocks, hname⟩ := hE
  have hown : s.vm.findClass RX2 = some m.cls := hown
  have hK := hOK.1 _ _ _ hz
  have hN := hOK.2.1 _ _ _ hz
  have hl : lv_has ls 3 [(0, .ref (au 0))] := hl
  unfold fX2_allHoles at hrun
  refine lv_iconst (v := (0 : Int32)) hx hb dX2_allHoles_0 (by decide) ?_
  refine lv_istore_n (lv' := [(1, .int (0 : Int32)), (0, .ref (au 0))]) hx hb dX2_allHoles_1 rfl hl (by decide) rfl (fun ls hl => ?_)
  refine lv_iconst (v := (0 : Int32)) hx hb dX2_allHoles_2 (by decide) ?_
  refine lv_istore_n (lv' := [(2, .int (0 : Int32)), (1, .int (0 : Int32)), (0, .ref (au 0))]) hx hb dX2_allHoles_3 rfl hl (by decide) rfl (fun ls hl => ?_)
  have hL_1 : ∀ n : Nat, ∀ (x1_2 : Int32) (x2_3 : Int32), ∀ ls : Array Slot, lv_has ls 3 [(0, .ref (au 0)), (1, .int x1_2), (2, .int x2_3)] → fX2_allHoles_L4 su n x1_2 x2_3 = some r → W p l e rX2_allHoles s m args below meth c s.heap [] 0 0 (MQ below (QRr (some (.int r))) args s 0 0 (fun _ => False)) (F0 m 4 ls []) := by
    intro n
    induction n with
    | zero =>
      intro x1_2 x2_3 ls hl hrun
      exact nomatch hrun
    | succ n ih =>
      intro x1_2 x2_3 ls hl hrun
      rw [fX2_allHoles_L4.eq_2] at hrun
      refine lv_iload_n hx hb dX2_allHoles_4 rfl (lv_at hl 2 rfl) ?_
      refine lv_bipush (v := (8 : Int32)) hx hb dX2_allHoles_5 (by decide) ?_
      refine lv_icmp_ge (tgt := 28) hx hb dX2_allHoles_7 (by decide) (fun c_4 => ?_) (fun c_4 => ?_)
      · have hrun := mif_p c_4 hrun
        refine lv_iload_n hx hb dX2_allHoles_28 rfl (lv_at hl 1 rfl) ?_
        cases hrun
        exact retR_i hx hb hr hlocks rfl dX2_allHoles_29
      have hrun := mif_n c_4 hrun
      refine lv_iload_n hx hb dX2_allHoles_10 rfl (lv_at hl 1 rfl) ?_
      refine lv_aload_n hx hb dX2_allHoles_11 rfl (lv_at hl 0 rfl) ?_
      refine va_get (ci := 2) (v := .ref (au 7)) (C := RX2) (T := TX2) (N := 21) hx hb hts in_X2 hown hK hP 0 rfl rfl 18 (by decide) (hts _ q203) (fun _ h9 => h9) rfl dX2_allHoles_12 ?_
      refine lv_iload_n hx hb dX2_allHoles_15 rfl (lv_at hl 2 rfl) ?_
      obtain ⟨hb_5, hrun⟩ := mck_s rfl hrun
      refine va_iald hx hb hK hP 7 0 rfl rfl hb_5 dX2_allHoles_16 ?_
      obtain ⟨r_7, hc_6, hrun⟩ := mob_s rfl hrun
      refine cRS (ws := []) (As := [.int ((wd_holes su) (Int32.toNatClampNeg x2_3))]) ⟨hx, hb, hml, hown, hts⟩ hOK hz va_S.rf zP0 (mtJ16_bitCount l D Z hOK _ _ hc_6) (kJ16_bitCount hts q744 rfl rfl ⟨Nat.le_of_ble_eq_true rfl, Nat.le_of_ble_eq_true rfl⟩) rfl hl.1 rfl (lv_room (Nat.le_of_ble_eq_true rfl)) ⟨Nat.le_of_ble_eq_true rfl, Nat.le_of_ble_eq_true rfl⟩ dX2_allHoles_17 ?_
      refine lv_iadd hx hb dX2_allHoles_20 ?_
      refine lv_istore_n (lv' := [(1, .int (x1_2 + r_7)), (0, .ref (au 0)), (2, .int x2_3)]) hx hb dX2_allHoles_21 rfl hl (by decide) rfl (fun ls hl => ?_)
      refine lv_iinc (v := (x2_3 + (1 : Int32))) (lv' := [(2, .int (x2_3 + (1 : Int32))), (1, .int (x1_2 + r_7)), (0, .ref (au 0))]) hx hb dX2_allHoles_22 hl (k := 2) rfl rfl (by decide) rfl (fun ls hl => ?_)
      refine lv_goto (tgt := 4) hx hb dX2_allHoles_25 (by decide) ?_
      exact ih (x1_2 + r_7) (x2_3 + (1 : Int32)) ls (lv_sub hl [2, 1, 0] rfl) hrun
  exact hL_1 mFU (0 : Int32) (0 : Int32) ls (lv_sub hl [2, 1, 0] rfl) hrun
def rX2_doubtOfAll : Room := { frames := 0, cells := 0, slots := 0, locals := 0 }
noncomputable def fX2_doubtOfAll_L4 (su : Wd) : Nat → Int32 → Int32 → Option (Int32)
  | 0, _, _ => none
  | n + 1, x1_2, x2_3 =>
    if (wd_guests su) ≤ x2_3 then
      some x1_2
    else
      mck x2_3 8 <|
      if ((wd_here su) (Int32.toNatClampNeg x2_3)) = true then
        mck x2_3 8 <|
        fX2_doubtOfAll_L4 su n (x1_2 + ((wd_doubt su) (Int32.toNatClampNeg x2_3))) (x2_3 + (1 : Int32))
      else
        fX2_doubtOfAll_L4 su n (x1_2 + (0 : Int32)) (x2_3 + (1 : Int32))
noncomputable def fX2_doubtOfAll (su : Wd) : Option (Int32) :=
  fX2_doubtOfAll_L4 su mFU (0 : Int32) (0 : Int32)
theorem kX2_doubtOfAll {R : Room} {s : State} {args : Array Value} {own : String} {idx mc ms : Nat} {rm : Room} (hts : ∀ w ∈ lw_all, w.before args s = true) (hl : Cond.methodLink own idx yX2_doubtOfAll ∈ lw_all) (hrc : rm.cells = mc) (hrs : rm.slots = ms) (hR : rm.frames + 1 ≤ R.frames ∧ 8 + (3 + 11) + rm.locals ≤ R.locals) : CallW R s args own RX2 idx yX2_doubtOfAll cX2_doubtOfAll 3 (some .int) (ws_ yX2_doubtOfAll cX2_doubtOfAll 3 (some .int)) rm mc ms 0 :=
  cwV 0 hts (lw_V hl q746 q747 q108 q748) rfl hrc hrs (by decide +kernel) hR
set_option maxHeartbeats 4000000 in
set_option maxRecDepth 100000 in
theorem mtX2_doubtOfAll (l : Launch) (D : va_G) (k : Nat → ClassId) (au : Nat → Nat) (Z : zZ) (hOK : zOK D zCl (zTys k) Z) (su : Wd) (r : Int32) (hrun : fX2_doubtOfAll su = some r) :
    CtR l yX2_doubtOfAll cX2_doubtOfAll 3 (some .int) rX2_doubtOfAll Z D zCl (cW k au su) [.ref (au 0)] (some (.int r)) := by
  refine CtR.of (by decide) (Nat.le_of_ble_eq_true rfl) ?_
  intro p e s m args below meth c hE hP hz ls hl
  obtain ⟨hx, hb, hr, hml, hown, hts, hlocks, hname⟩ := hE
  have hown : s.vm.findClass RX2 = some m.cls := hown
  have hK := hOK.1 _ _ _ hz
  have hN := hOK.2.1 _ _ _ hz
  have hl : lv_has ls 3 [(0, .ref (au 0))] := hl
  unfold fX2_doubtOfAll at hrun
  refine lv_iconst (v := (0 : Int32)) hx hb dX2_doubtOfAll_0 (by decide) ?_
  refine lv_istore_n (lv' := [(1, .int (0 : Int32)), (0, .ref (au 0))]) hx hb dX2_doubtOfAll_1 rfl hl (by decide) rfl (fun ls hl => ?_)
  refine lv_iconst (v := (0 : Int32)) hx hb dX2_doubtOfAll_2 (by decide) ?_
  refine lv_istore_n (lv' := [(2, .int (0 : Int32)), (1, .int (0 : Int32)), (0, .ref (au 0))]) hx hb dX2_doubtOfAll_3 rfl hl (by decide) rfl (fun ls hl => ?_)
  have hL_1 : ∀ n : Nat, ∀ (x1_2 : Int32) (x2_3 : Int32), ∀ ls : Array Slot, lv_has ls 3 [(0, .ref (au 0)), (1, .int x1_2), (2, .int x2_3)] → fX2_doubtOfAll_L4 su n x1_2 x2_3 = some r → W p l e rX2_doubtOfAll s m args below meth c s.heap [] 0 0 (MQ below (QRr (some (.int r))) args s 0 0 (fun _ => False)) (F0 m 4 ls []) := by
    intro n
    induction n with
    | zero =>
      intro x1_2 x2_3 ls hl hrun
      exact nomatch hrun
    | succ n ih =>
      intro x1_2 x2_3 ls hl hrun
      rw [fX2_doubtOfAll_L4.eq_2] at hrun
      refine lv_iload_n hx hb dX2_doubtOfAll_4 rfl (lv_at hl 2 rfl) ?_
      refine lv_aload_n hx hb dX2_doubtOfAll_5 rfl (lv_at hl 0 rfl) ?_
      refine va_get (ci := 2) (v := .int (wd_guests su)) (C := RX2) (T := TX2) (N := 21) hx hb hts in_X2 hown hK hP 0 rfl rfl 1 (by decide) (hts _ q164) (fun _ h9 => h9) rfl dX2_doubtOfAll_6 ?_
      refine lv_icmp_ge (tgt := 40) hx hb dX2_doubtOfAll_9 (by decide) (fun c_4 => ?_) (fun c_4 => ?_)
      · have hrun := mif_p c_4 hrun
        refine lv_iload_n hx hb dX2_doubtOfAll_40 rfl (lv_at hl 1 rfl) ?_
        cases hrun
        exact retR_i hx hb hr hlocks rfl dX2_doubtOfAll_41
      have hrun := mif_n c_4 hrun
      refine lv_iload_n hx hb dX2_doubtOfAll_12 rfl (lv_at hl 1 rfl) ?_
      refine lv_aload_n hx hb dX2_doubtOfAll_13 rfl (lv_at hl 0 rfl) ?_
      refine va_get (ci := 2) (v := .ref (au 6)) (C := RX2) (T := TX2) (N := 21) hx hb hts in_X2 hown hK hP 0 rfl rfl 17 (by decide) (hts _ q200) (fun _ h9 => h9) rfl dX2_doubtOfAll_14 ?_
      refine lv_iload_n hx hb dX2_doubtOfAll_17 rfl (lv_at hl 2 rfl) ?_
      obtain ⟨hb_5, hrun⟩ := mck_s rfl hrun
      refine va_zald hx hb hK hP 6 1 rfl rfl hb_5 dX2_doubtOfAll_18 ?_
      refine lv_if_eq (tgt := 31) hx hb dX2_doubtOfAll_19 (by decide) (fun c_6 => ?_) (fun c_6 => ?_)
      · have hrun := mif_n (bz_z c_6) hrun
        refine lv_iconst (v := (0 : Int32)) hx hb dX2_doubtOfAll_31 (by decide) ?_
        refine lv_iadd hx hb dX2_doubtOfAll_32 ?_
        refine lv_istore_n (lv' := [(1, .int (x1_2 + (0 : Int32))), (0, .ref (au 0)), (2, .int x2_3)]) hx hb dX2_doubtOfAll_33 rfl hl (by decide) rfl (fun ls hl => ?_)
        refine lv_iinc (v := (x2_3 + (1 : Int32))) (lv' := [(2, .int (x2_3 + (1 : Int32))), (1, .int (x1_2 + (0 : Int32))), (0, .ref (au 0))]) hx hb dX2_doubtOfAll_34 hl (k := 2) rfl rfl (by decide) rfl (fun ls hl => ?_)
        refine lv_goto (tgt := 4) hx hb dX2_doubtOfAll_37 (by decide) ?_
        exact ih (x1_2 + (0 : Int32)) (x2_3 + (1 : Int32)) ls (lv_sub hl [2, 1, 0] rfl) hrun
      have hrun := mif_p (bz_nz c_6) hrun
      refine lv_aload_n hx hb dX2_doubtOfAll_22 rfl (lv_at hl 0 rfl) ?_
      refine va_get (ci := 2) (v := .ref (au 4)) (C := RX2) (T := TX2) (N := 21) hx hb hts in_X2 hown hK hP 0 rfl rfl 15 (by decide) (hts _ q195) (fun _ h9 => h9) rfl dX2_doubtOfAll_23 ?_
      refine lv_iload_n hx hb dX2_doubtOfAll_26 rfl (lv_at hl 2 rfl) ?_
      obtain ⟨hb_7, hrun⟩ := mck_s rfl hrun
      refine va_iald hx hb hK hP 4 0 rfl rfl hb_7 dX2_doubtOfAll_27 ?_
      refine lv_goto (tgt := 32) hx hb dX2_doubtOfAll_28 (by decide) ?_
      refine lv_iadd hx hb dX2_doubtOfAll_32 ?_
      refine lv_istore_n (lv' := [(1, .int (x1_2 + ((wd_doubt su) (Int32.toNatClampNeg x2_3)))), (0, .ref (au 0)), (2, .int x2_3)]) hx hb dX2_doubtOfAll_33 rfl hl (by decide) rfl (fun ls hl => ?_)
      refine lv_iinc (v := (x2_3 + (1 : Int32))) (lv' := [(2, .int (x2_3 + (1 : Int32))), (1, .int (x1_2 + ((wd_doubt su) (Int32.toNatClampNeg x2_3)))), (0, .ref (au 0))]) hx hb dX2_doubtOfAll_34 hl (k := 2) rfl rfl (by decide) rfl (fun ls hl => ?_)
      refine lv_goto (tgt := 4) hx hb dX2_doubtOfAll_37 (by decide) ?_
      exact ih (x1_2 + ((wd_doubt su) (Int32.toNatClampNeg x2_3))) (x2_3 + (1 : Int32)) ls (lv_sub hl [2, 1, 0] rfl) hrun
  exact hL_1 mFU (0 : Int32) (0 : Int32) ls (lv_sub hl [2, 1, 0] rfl) hrun
def rX2_draw : Room := { frames := 0, cells := 0, slots := 0, locals := 0 }
noncomputable def fX2_draw (su : Wd) (p1 : Int32) : Option (Int32 × Wd) :=
  mlt (((1103515245 : Int32) * (wd_seed su)) + (12345 : Int32)) fun v_1 =>
  mlt (wd_s_seed su v_1) fun su_2 =>
  mnz p1 <|
  some ((mrm ((mus (wd_seed su_2) (16 : Int32)) &&& (32767 : Int32)) p1), su_2)
theorem kX2_draw {R : Room} {s : State} {args : Array Value} {own : String} {idx mc ms : Nat} {rm : Room} (hts : ∀ w ∈ lw_all, w.before args s = true) (hl : Cond.methodLink own idx yX2_draw ∈ lw_all) (hrc : rm.cells = mc) (hrs : rm.slots = ms) (hR : rm.frames + 1 ≤ R.frames ∧ 8 + (2 + 11) + rm.locals ≤ R.locals) : CallW R s args own RX2 idx yX2_draw cX2_draw 2 (some .int) (ws_ yX2_draw cX2_draw 2 (some .int)) rm mc ms 1 :=
  cwV 1 hts (lw_V hl q1713 q1714 q108 q1715) rfl hrc hrs (by decide +kernel) hR
set_option maxHeartbeats 4000000 in
set_option maxRecDepth 100000 in
theorem mtX2_draw (l : Launch) (D : va_G) (k : Nat → ClassId) (au : Nat → Nat) (Z : zZ) (hOK : zOK D zCl (zTys k) Z) (su : Wd) (p1 : Int32) (r : Int32) (ou : Wd) (hrun : fX2_draw su p1 = some (r, ou)) :
    CtW l yX2_draw cX2_draw 2 (some .int) rX2_draw Z D zCl (cW k au su) [.ref (au 0), .int p1] (fun r' w' => r' = (some (.int r)) ∧ w' = (cW k au ou)) 0 0 := by
  refine CtW.of (by decide) (Nat.le_of_ble_eq_true rfl) ?_
  intro p e s m args below meth c A hE hA hP hD hS hz ls hl
  obtain ⟨hx, hb, hr, hml, hown, hts, hlocks, hname⟩ := hE
  have hown : s.vm.findClass RX2 = some m.cls := hown
  have hK := hOK.1 _ _ _ hz
  have hN := hOK.2.1 _ _ _ hz
  have hl : lv_has ls 2 [(0, .ref (au 0)), (1, .int p1)] := hl
  unfold fX2_draw at hrun
  refine lv_aload_n hx hb dX2_draw_0 rfl (lv_at hl 0 rfl) ?_
  refine lv_ldc (v := (1103515245 : Int32)) hx hb hown (hts _ q1716) dX2_draw_1 ?_
  refine lv_aload_n hx hb dX2_draw_3 rfl (lv_at hl 0 rfl) ?_
  refine va_get (ci := 2) (v := .int (wd_seed su)) (C := RX2) (T := TX2) (N := 21) hx hb hts in_X2 hown hK hP 0 rfl rfl 11 (by decide) (hts _ q186) (fun _ h9 => h9) rfl dX2_draw_4 ?_
  refine lv_imul hx hb dX2_draw_7 ?_
  refine lv_sipush (v := (12345 : Int32)) hx hb dX2_draw_8 (by decide) ?_
  refine lv_iadd hx hb dX2_draw_11 ?_
  refine lv_topi (fun v_1 ev_1 => ?_)
  have hrun := mlt_s hrun v_1 ev_1
  refine va_put (ci := 2) (v := .int v_1) (ty := tyX2 11) (C := RX2) (T := TX2) (N := 21) hx hb hts in_X2 tyX2 tyX2_ok nmX2 hown hK hP hD hS 0 rfl rfl 11 (by decide) (hts _ q186) (fun _ h9 => h9) rfl (tyX2_ok 11 (by decide)) rfl rfl (Nat.le_of_ble_eq_true rfl) dX2_draw_12 (fun H locs hP hD hS => ?_)
  have hP : va_P D zCl (cW k au (wd_s_seed su v_1)) H := hP
  have hD : va_D A (cW k au (wd_s_seed su v_1)) := hD
  obtain ⟨su_2, esu_2⟩ : ∃ z : Wd, z = (wd_s_seed su v_1) := ⟨_, rfl⟩
  rw [← esu_2] at hP hD
  have hrun := mlt_s hrun su_2 esu_2
  refine lv_aload_n hx hb dX2_draw_15 rfl (lv_at hl 0 rfl) ?_
  refine va_get (ci := 2) (v := .int (wd_seed su_2)) (C := RX2) (T := TX2) (N := 21) hx hb hts in_X2 hown hK hP 0 rfl rfl 11 (by decide) (hts _ q186) (fun _ h9 => h9) rfl dX2_draw_16 ?_
  refine lv_bipush (v := (16 : Int32)) hx hb dX2_draw_19 (by decide) ?_
  refine lv_iushr (v := (mus (wd_seed su_2) (16 : Int32))) hx hb dX2_draw_21 rfl ?_
  refine lv_sipush (v := (32767 : Int32)) hx hb dX2_draw_22 (by decide) ?_
  refine lv_iand hx hb dX2_draw_25 ?_
  refine lv_iload_n hx hb dX2_draw_26 rfl (lv_at hl 1 rfl) ?_
  obtain ⟨hn_3, hrun⟩ := mnz_s rfl hrun
  refine lv_irem hx hb dX2_draw_27 hn_3 ?_
  cases hrun
  exact retW_i hx hb hr hlocks hP hD hS ⟨rfl, rfl⟩ dX2_draw_28
