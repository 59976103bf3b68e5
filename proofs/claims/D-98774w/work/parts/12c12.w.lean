/-! walks: X1_line, X1_pass, X1_led, X1_log -/
def rX1_line : Room := { frames := 8, cells := 2, slots := 12, locals := 130 }
noncomputable def fX1_line_L39 (K_16 : Int32 → Option ((String) ⊕ (Int32))) (x3_8 : Int32) (sw : Wd) : Nat → Int32 → Int32 → Option ((String) ⊕ (Int32))
  | 0, _, _ => none
  | n + 1, x5_18, x6_19 =>
    if (8 : Int32) ≤ x6_19 then
      K_16 x5_18
    else
      mob (fX1_has x3_8 x6_19) fun r_22 =>
      if r_22 = true then
        mck x6_19 8 <|
        fX1_line_L39 K_16 x3_8 sw n (x5_18 ||| ((wd_holes sw) (Int32.toNatClampNeg x6_19))) (x6_19 + (1 : Int32))
      else
        fX1_line_L39 K_16 x3_8 sw n (x5_18 ||| (0 : Int32)) (x6_19 + (1 : Int32))
noncomputable def fX1_line_L15 (p2 : Int32) (sw : Wd) : Nat → Int32 → Int32 → Option ((String) ⊕ (Int32))
  | 0, _, _ => none
  | n + 1, x3_8, x4_9 =>
    if (8 : Int32) ≤ x4_9 then
      some (.inr (-1 : Int32))
    else
      mob (fX1_has x3_8 p2) fun r_12 =>
      if r_12 = true then
        some (.inr x4_9)
      else
        mjn (fun (x5_15 : Int32) =>
        fX1_line_L15 p2 sw n x5_15 (x4_9 + (1 : Int32))) fun K_16 =>
        fX1_line_L39 K_16 x3_8 sw mFU x3_8 (0 : Int32)
noncomputable def fX1_line (sh : Kp) (sw : Wd) (p1 : Int32) (p2 : Int32) : Option ((String) ⊕ (Int32)) :=
  mox (fX1_roomAt p1) (fun E_3 => some (.inl E_3)) fun _ =>
  mox (fX1_roomAt p2) (fun E_6 => some (.inl E_6)) fun _ =>
  fX1_line_L15 p2 sw mFU ((1 : Int32) <<< (p1 &&& (31 : Int32))) (0 : Int32)
theorem kX1_line {R : Room} {s : State} {args : Array Value} {own : String} {idx mc ms : Nat} {rm : Room} (hts : ∀ w ∈ lw_all, w.before args s = true) (hl : Cond.methodLink own idx yX1_line ∈ lw_all) (hrc : rm.cells = mc) (hrs : rm.slots = ms) (hR : rm.frames + 1 ≤ R.frames ∧ 8 + (7 + 11) + rm.locals ≤ R.locals) : CallW R s args own RX1 idx yX1_line cX1_line 7 (some .int) (ws_ yX1_line cX1_line 7 (some .int)) rm mc ms 2 :=
  cwV 2 hts (lw_V hl q1824 q1825 q107 q1826) rfl hrc hrs (by decide +kernel) hR
set_option maxHeartbeats 4000000 in
set_option maxRecDepth 100000 in
theorem mtX1_line (l : Launch) (D : va_G) (k : Nat → ClassId) (ah : Nat → Nat) (aw : Nat → Nat) (adr : Nat → Nat) (aim : Nat → Nat) (ard : Nat → Nat) (asc : Nat → Nat) (ath : Nat → Nat) (awl : Nat → Nat) (alo : Nat → Nat) (atr : Nat → Nat) (Z : zZ) (hOK : zOK D zCl (zTys k) Z) (hlt : l.stackTraces = false) (hTh : zTh Z) (sh : Kp) (sw : Wd) (p1 : Int32) (p2 : Int32) (o : (String) ⊕ (Int32)) (hrun : fX1_line sh sw p1 p2 = some o) :
    CtX l yX1_line cX1_line 7 (some .int) rX1_line Z D zCl ((cH k ah aw adr aim ard asc ath awl alo atr sh) ++ (cW k aw sw)) [.ref (ah 0), .int p1, .int p2] (fun r' w' => ∃ (r : Int32), o = .inr r ∧ r' = (some (.int r)) ∧ w' = ((cH k ah aw adr aim ard asc ath awl alo atr sh) ++ (cW k aw sw))) (fun E' w' => o = .inl E' ∧ w' = ((cH k ah aw adr aim ard asc ath awl alo atr sh) ++ (cW k aw sw))) 2 12 := by
  refine CtX.of (by decide) (Nat.le_of_ble_eq_true rfl) ?_
  intro p e s m args below meth c A hE hnoh hA hP hD hS hz ls hl
  obtain ⟨hx, hb, hr, hml, hown, hts, hlocks, hname⟩ := hE
  have hown : s.vm.findClass RX1 = some m.cls := hown
  have hK := hOK.1 _ _ _ hz
  have hN := hOK.2.1 _ _ _ hz
  have hl : lv_has ls 7 [(0, .ref (ah 0)), (1, .int p1), (2, .int p2)] := hl
  unfold fX1_line at hrun
  refine lv_iload_n hx hb dX1_line_0 rfl (lv_at hl 1 rfl) ?_
  obtain ⟨o_2, hc_1, hrun⟩ := mox_s rfl hrun
  have hP := hP.sub (ws' := ([] ++ ([] ++ ((cH k ah aw adr aim ard asc ath awl alo atr sh) ++ (cW k aw sw))))) [0, 1, 2, 3, 4, 5, 6, 7, 8, 9] rfl
  have hD := hD.sub (ws' := ([] ++ ([] ++ ((cH k ah aw adr aim ard asc ath awl alo atr sh) ++ (cW k aw sw))))) [0, 1, 2, 3, 4, 5, 6, 7, 8, 9] (by decide) rfl
  refine cXS [] [] ((cH k ah aw adr aim ard asc ath awl alo atr sh) ++ (cW k aw sw)) (As := [.int p1]) ⟨hx, hb, hml, hown, hts⟩ hOK hz hS hA hP hD (mtX1_roomAt l D Z hOK hlt hTh _ o_2 hc_1) (kX1_roomAt hts q1603 rfl rfl ⟨Nat.le_of_ble_eq_true rfl, Nat.le_of_ble_eq_true rfl⟩) rfl hl.1 rfl (lv_room (Nat.le_of_ble_eq_true rfl)) ⟨Nat.le_of_ble_eq_true rfl, Nat.le_of_ble_eq_true rfl⟩ dX1_line_1 (fun E_ w_ ce_ q9_ H locs hq hP hD hS hce hcv hcl => ?_) (fun r_ w_ H locs hq hP hD hS => ?_)
  · obtain ⟨rfl, rfl⟩ := hq
    have hrun := moxl hrun
    cases hrun
    have hP := hP.sub (ws' := ((cH k ah aw adr aim ard asc ath awl alo atr sh) ++ (cW k aw sw))) [0, 1, 2, 3, 4, 5, 6, 7, 8, 9] rfl
    have hD := hD.sub (ws' := ((cH k ah aw adr aim ard asc ath awl alo atr sh) ++ (cW k aw sw))) [0, 1, 2, 3, 4, 5, 6, 7, 8, 9] (by decide) rfl
    exact zout hnoh hlocks hce hcv hcl hP hD hS ⟨rfl, rfl⟩ (Nat.le_of_ble_eq_true rfl) (Nat.le_of_ble_eq_true rfl)
  obtain ⟨rfl, rfl, rfl⟩ := hq
  have hrun := moxr hrun
  have hP := hP.sub (ws' := ((cH k ah aw adr aim ard asc ath awl alo atr sh) ++ (cW k aw sw))) [0, 1, 2, 3, 4, 5, 6, 7, 8, 9] rfl
  have hD := hD.sub (ws' := ((cH k ah aw adr aim ard asc ath awl alo atr sh) ++ (cW k aw sw))) [0, 1, 2, 3, 4, 5, 6, 7, 8, 9] (by decide) rfl
  refine lv_iload_n hx hb dX1_line_4 rfl (lv_at hl 2 rfl) ?_
  obtain ⟨o_5, hc_4, hrun⟩ := mox_s rfl hrun
  have hP := hP.sub (ws' := ([] ++ ([] ++ ((cH k ah aw adr aim ard asc ath awl alo atr sh) ++ (cW k aw sw))))) [0, 1, 2, 3, 4, 5, 6, 7, 8, 9] rfl
  have hD := hD.sub (ws' := ([] ++ ([] ++ ((cH k ah aw adr aim ard asc ath awl alo atr sh) ++ (cW k aw sw))))) [0, 1, 2, 3, 4, 5, 6, 7, 8, 9] (by decide) rfl
  refine cXS [] [] ((cH k ah aw adr aim ard asc ath awl alo atr sh) ++ (cW k aw sw)) (As := [.int p2]) ⟨hx, hb, hml, hown, hts⟩ hOK hz hS hA hP hD (mtX1_roomAt l D Z hOK hlt hTh _ o_5 hc_4) (kX1_roomAt hts q1603 rfl rfl ⟨Nat.le_of_ble_eq_true rfl, Nat.le_of_ble_eq_true rfl⟩) rfl hl.1 rfl (lv_room (Nat.le_of_ble_eq_true rfl)) ⟨Nat.le_of_ble_eq_true rfl, Nat.le_of_ble_eq_true rfl⟩ dX1_line_5 (fun E_ w_ ce_ q9_ H locs hq hP hD hS hce hcv hcl => ?_) (fun r_ w_ H locs hq hP hD hS => ?_)
  · obtain ⟨rfl, rfl⟩ := hq
    have hrun := moxl hrun
    cases hrun
    have hP := hP.sub (ws' := ((cH k ah aw adr aim ard asc ath awl alo atr sh) ++ (cW k aw sw))) [0, 1, 2, 3, 4, 5, 6, 7, 8, 9] rfl
    have hD := hD.sub (ws' := ((cH k ah aw adr aim ard asc ath awl alo atr sh) ++ (cW k aw sw))) [0, 1, 2, 3, 4, 5, 6, 7, 8, 9] (by decide) rfl
    exact zout hnoh hlocks hce hcv hcl hP hD hS ⟨rfl, rfl⟩ (Nat.le_of_ble_eq_true rfl) (Nat.le_of_ble_eq_true rfl)
  obtain ⟨rfl, rfl, rfl⟩ := hq
  have hrun := moxr hrun
  have hP := hP.sub (ws' := ((cH k ah aw adr aim ard asc ath awl alo atr sh) ++ (cW k aw sw))) [0, 1, 2, 3, 4, 5, 6, 7, 8, 9] rfl
  have hD := hD.sub (ws' := ((cH k ah aw adr aim ard asc ath awl alo atr sh) ++ (cW k aw sw))) [0, 1, 2, 3, 4, 5, 6, 7, 8, 9] (by decide) rfl
  refine lv_iconst (v := (1 : Int32)) hx hb dX1_line_8 (by decide) ?_
  refine lv_iload_n hx hb dX1_line_9 rfl (lv_at hl 1 rfl) ?_
  refine lv_ishl hx hb dX1_line_10 ?_
  refine lv_istore_n (lv' := [(3, .int ((1 : Int32) <<< (p1 &&& (31 : Int32)))), (0, .ref (ah 0)), (1, .int p1), (2, .int p2)]) hx hb dX1_line_11 rfl hl (by decide) rfl (fun ls hl => ?_)
  refine lv_iconst (v := (0 : Int32)) hx hb dX1_line_12 (by decide) ?_
  refine lv_istore (lv' := [(4, .int (0 : Int32)), (3, .int ((1 : Int32) <<< (p1 &&& (31 : Int32)))), (0, .ref (ah 0)), (1, .int p1), (2, .int p2)]) hx hb dX1_line_13 hl (by decide) rfl (fun ls hl => ?_)
  have hL_7 : ∀ n : Nat, ∀ (x3_8 : Int32) (x4_9 : Int32), ∀ (H : Heap) (locs : List Loc), va_P D zCl ((cH k ah aw adr aim ard asc ath awl alo atr sh) ++ (cW k aw sw)) H → va_D A ((cH k ah aw adr aim ard asc ath awl alo atr sh) ++ (cW k aw sw)) → va_S A s.heap H locs → ∀ ls : Array Slot, lv_has ls 7 [(0, .ref (ah 0)), (2, .int p2), (3, .int x3_8), (4, .int x4_9)] → fX1_line_L15 p2 sw n x3_8 x4_9 = some o → W p l e rX1_line s m args below meth c H locs 2 12 (vx_MQ below (QWr (fun r' w' => ∃ (r : Int32), o = .inr r ∧ r' = (some (.int r)) ∧ w' = ((cH k ah aw adr aim ard asc ath awl alo atr sh) ++ (cW k aw sw))) D zCl A) (QXr (fun E' w' => o = .inl E' ∧ w' = ((cH k ah aw adr aim ard asc ath awl alo atr sh) ++ (cW k aw sw))) D zCl A) args s 2 12 A) (F0 m 15 ls []) := by
    intro n
    induction n with
    | zero =>
      intro x3_8 x4_9 H locs hP hD hS ls hl hrun
      exact nomatch hrun
    | succ n ih =>
      intro x3_8 x4_9 H locs hP hD hS ls hl hrun
      rw [fX1_line_L15.eq_2] at hrun
      refine lv_iload hx hb dX1_line_15 (lv_at hl 3 rfl) ?_
      refine lv_bipush (v := (8 : Int32)) hx hb dX1_line_17 (by decide) ?_
      refine lv_icmp_ge (tgt := 89) hx hb dX1_line_19 (by decide) (fun c_10 => ?_) (fun c_10 => ?_)
      · have hrun := mif_p c_10 hrun
        refine lv_iconst (v := (-1 : Int32)) hx hb dX1_line_89 (by decide) ?_
        cases hrun
        refine W.widen (k := 2) (n := 12) (Nat.le_of_ble_eq_true rfl) (Nat.le_of_ble_eq_true rfl) ?_
        exact vx_ret (retW_i hx hb hr hlocks hP hD hS ⟨_, rfl, rfl, rfl⟩ dX1_line_90)
      have hrun := mif_n c_10 hrun
      refine lv_iload_n hx hb dX1_line_22 rfl (lv_at hl 2 rfl) ?_
      refine lv_iload_n hx hb dX1_line_23 rfl (lv_at hl 1 rfl) ?_
      obtain ⟨r_12, hc_11, hrun⟩ := mob_s rfl hrun
      refine cRS (ws := []) (As := [.int x3_8, .int p2]) ⟨hx, hb, hml, hown, hts⟩ hOK hz hS zP0 (mtX1_has l D Z hOK _ _ _ hc_11) (kX1_has hts q586 rfl rfl ⟨Nat.le_of_ble_eq_true rfl, Nat.le_of_ble_eq_true rfl⟩) rfl hl.1 rfl (lv_room (Nat.le_of_ble_eq_true rfl)) ⟨Nat.le_of_ble_eq_true rfl, Nat.le_of_ble_eq_true rfl⟩ dX1_line_24 ?_
      refine lv_if_eq (tgt := 33) hx hb dX1_line_27 (by decide) (fun c_13 => ?_) (fun c_13 => ?_)
      · have hrun := mif_n (bz_z c_13) hrun
        refine lv_iload_n hx hb dX1_line_33 rfl (lv_at hl 2 rfl) ?_
        refine lv_istore (lv' := [(5, .int x3_8), (0, .ref (ah 0)), (2, .int p2), (3, .int x3_8), (4, .int x4_9)]) hx hb dX1_line_34 hl (by decide) rfl (fun ls hl => ?_)
        refine lv_iconst (v := (0 : Int32)) hx hb dX1_line_36 (by decide) ?_
        refine lv_istore (lv' := [(6, .int (0 : Int32)), (5, .int x3_8), (0, .ref (ah 0)), (2, .int p2), (3, .int x3_8), (4, .int x4_9)]) hx hb dX1_line_37 hl (by decide) rfl (fun ls hl => ?_)
        obtain ⟨K_16, hK_16, hrun⟩ := mjn_s hrun
        have hj_14 : ∀ (x5_15 : Int32), ∀ (H : Heap) (locs : List Loc), va_P D zCl ((cH k ah aw adr aim ard asc ath awl alo atr sh) ++ (cW k aw sw)) H → va_D A ((cH k ah aw adr aim ard asc ath awl alo atr sh) ++ (cW k aw sw)) → va_S A s.heap H locs → ∀ ls : Array Slot, lv_has ls 7 [(0, .ref (ah 0)), (2, .int p2), (4, .int x4_9), (5, .int x5_15)] → K_16 x5_15 = some o → W p l e rX1_line s m args below meth c H locs 2 12 (vx_MQ below (QWr (fun r' w' => ∃ (r : Int32), o = .inr r ∧ r' = (some (.int r)) ∧ w' = ((cH k ah aw adr aim ard asc ath awl alo atr sh) ++ (cW k aw sw))) D zCl A) (QXr (fun E' w' => o = .inl E' ∧ w' = ((cH k ah aw adr aim ard asc ath awl alo atr sh) ++ (cW k aw sw))) D zCl A) args s 2 12 A) (F0 m 80 ls []) := by
          intro x5_15 H locs hP hD hS ls hl hrun
          rw [hK_16] at hrun
          refine lv_iload hx hb dX1_line_80 (lv_at hl 3 rfl) ?_
          refine lv_istore_n (lv' := [(3, .int x5_15), (0, .ref (ah 0)), (2, .int p2), (4, .int x4_9), (5, .int x5_15)]) hx hb dX1_line_82 rfl hl (by decide) rfl (fun ls hl => ?_)
          refine lv_iinc (v := (x4_9 + (1 : Int32))) (lv' := [(4, .int (x4_9 + (1 : Int32))), (3, .int x5_15), (0, .ref (ah 0)), (2, .int p2), (5, .int x5_15)]) hx hb dX1_line_83 hl (k := 3) rfl rfl (by decide) rfl (fun ls hl => ?_)
          refine lv_goto (tgt := 15) hx hb dX1_line_86 (by decide) ?_
          exact ih x5_15 (x4_9 + (1 : Int32)) _ _ hP hD hS ls (lv_sub hl [2, 3, 1, 0] rfl) hrun
        have hL_17 : ∀ n : Nat, ∀ (x5_18 : Int32) (x6_19 : Int32), ∀ (H : Heap) (locs : List Loc), va_P D zCl ((cH k ah aw adr aim ard asc ath awl alo atr sh) ++ (cW k aw sw)) H → va_D A ((cH k ah aw adr aim ard asc ath awl alo atr sh) ++ (cW k aw sw)) → va_S A s.heap H locs → ∀ ls : Array Slot, lv_has ls 7 [(0, .ref (ah 0)), (2, .int p2), (3, .int x3_8), (4, .int x4_9), (5, .int x5_18), (6, .int x6_19)] → fX1_line_L39 K_16 x3_8 sw n x5_18 x6_19 = some o → W p l e rX1_line s m args below meth c H locs 2 12 (vx_MQ below (QWr (fun r' w' => ∃ (r : Int32), o = .inr r ∧ r' = (some (.int r)) ∧ w' = ((cH k ah aw adr aim ard asc ath awl alo atr sh) ++ (cW k aw sw))) D zCl A) (QXr (fun E' w' => o = .inl E' ∧ w' = ((cH k ah aw adr aim ard asc ath awl alo atr sh) ++ (cW k aw sw))) D zCl A) args s 2 12 A) (F0 m 39 ls []) := by
          intro n
          induction n with
          | zero =>
            intro x5_18 x6_19 H locs hP hD hS ls hl hrun
            exact nomatch hrun
          | succ n ih =>
            intro x5_18 x6_19 H locs hP hD hS ls hl hrun
            rw [fX1_line_L39.eq_2] at hrun
            refine lv_iload hx hb dX1_line_39 (lv_at hl 5 rfl) ?_
            refine lv_bipush (v := (8 : Int32)) hx hb dX1_line_41 (by decide) ?_
            refine lv_icmp_ge (tgt := 80) hx hb dX1_line_43 (by decide) (fun c_20 => ?_) (fun c_20 => ?_)
            · have hrun := mif_p c_20 hrun
              exact hj_14 x5_18 _ _ hP hD hS ls (lv_sub hl [0, 1, 3, 4] rfl) hrun
            have hrun := mif_n c_20 hrun
            refine lv_iload hx hb dX1_line_46 (lv_at hl 4 rfl) ?_
            refine lv_iload_n hx hb dX1_line_48 rfl (lv_at hl 2 rfl) ?_
            refine lv_iload hx hb dX1_line_49 (lv_at hl 5 rfl) ?_
            obtain ⟨r_22, hc_21, hrun⟩ := mob_s rfl hrun
            refine cRS (ws := []) (As := [.int x3_8, .int x6_19]) ⟨hx, hb, hml, hown, hts⟩ hOK hz hS zP0 (mtX1_has l D Z hOK _ _ _ hc_21) (kX1_has hts q586 rfl rfl ⟨Nat.le_of_ble_eq_true rfl, Nat.le_of_ble_eq_true rfl⟩) rfl hl.1 rfl (lv_room (Nat.le_of_ble_eq_true rfl)) ⟨Nat.le_of_ble_eq_true rfl, Nat.le_of_ble_eq_true rfl⟩ dX1_line_51 ?_
            refine lv_if_eq (tgt := 70) hx hb dX1_line_54 (by decide) (fun c_23 => ?_) (fun c_23 => ?_)
            · have hrun := mif_n (bz_z c_23) hrun
              refine lv_iconst (v := (0 : Int32)) hx hb dX1_line_70 (by decide) ?_
              refine lv_ior hx hb dX1_line_71 ?_
              refine lv_istore (lv' := [(5, .int (x5_18 ||| (0 : Int32))), (0, .ref (ah 0)), (2, .int p2), (3, .int x3_8), (4, .int x4_9), (6, .int x6_19)]) hx hb dX1_line_72 hl (by decide) rfl (fun ls hl => ?_)
              refine lv_iinc (v := (x6_19 + (1 : Int32))) (lv' := [(6, .int (x6_19 + (1 : Int32))), (5, .int (x5_18 ||| (0 : Int32))), (0, .ref (ah 0)), (2, .int p2), (3, .int x3_8), (4, .int x4_9)]) hx hb dX1_line_74 hl (k := 5) rfl rfl (by decide) rfl (fun ls hl => ?_)
              refine lv_goto (tgt := 39) hx hb dX1_line_77 (by decide) ?_
              exact ih (x5_18 ||| (0 : Int32)) (x6_19 + (1 : Int32)) _ _ hP hD hS ls (lv_sub hl [2, 3, 4, 5, 1, 0] rfl) hrun
            have hrun := mif_p (bz_nz c_23) hrun
            refine lv_aload_n hx hb dX1_line_57 rfl (lv_at hl 0 rfl) ?_
            refine va_get (ci := 1) (v := .ref (aw 0)) (C := RX1) (T := TX1) (N := 10) hx hb hts in_X1 hown hK hP 0 rfl rfl 0 (by decide) (hts _ q370) (fun _ h9 => h9) rfl dX1_line_58 ?_
            refine va_getN (ci := 2) (v := .ref (aw 7)) (C := RX2) (T := TX2) (N := 21) hx hb hts in_X2 hown hK hP 1 rfl rfl 18 (by decide) (va_Nw.use rfl (hN _ (zN_of q204 rfl))) (fun _ h9 => h9) rfl dX1_line_61 ?_
            refine lv_iload hx hb dX1_line_64 (lv_at hl 5 rfl) ?_
            obtain ⟨hb_24, hrun⟩ := mck_s rfl hrun
            refine va_iald hx hb hK hP 8 0 rfl rfl hb_24 dX1_line_66 ?_
            refine lv_goto (tgt := 71) hx hb dX1_line_67 (by decide) ?_
            refine lv_ior hx hb dX1_line_71 ?_
            refine lv_istore (lv' := [(5, .int (x5_18 ||| ((wd_holes sw) (Int32.toNatClampNeg x6_19)))), (0, .ref (ah 0)), (2, .int p2), (3, .int x3_8), (4, .int x4_9), (6, .int x6_19)]) hx hb dX1_line_72 hl (by decide) rfl (fun ls hl => ?_)
            refine lv_iinc (v := (x6_19 + (1 : Int32))) (lv' := [(6, .int (x6_19 + (1 : Int32))), (5, .int (x5_18 ||| ((wd_holes sw) (Int32.toNatClampNeg x6_19)))), (0, .ref (ah 0)), (2, .int p2), (3, .int x3_8), (4, .int x4_9)]) hx hb dX1_line_74 hl (k := 5) rfl rfl (by decide) rfl (fun ls hl => ?_)
            refine lv_goto (tgt := 39) hx hb dX1_line_77 (by decide) ?_
            exact ih (x5_18 ||| ((wd_holes sw) (Int32.toNatClampNeg x6_19))) (x6_19 + (1 : Int32)) _ _ hP hD hS ls (lv_sub hl [2, 3, 4, 5, 1, 0] rfl) hrun
        exact hL_17 mFU x3_8 (0 : Int32) _ _ hP hD hS ls (lv_sub hl [2, 3, 4, 5, 1, 0] rfl) hrun
      have hrun := mif_p (bz_nz c_13) hrun
      refine lv_iload hx hb dX1_line_30 (lv_at hl 3 rfl) ?_
      cases hrun
      refine W.widen (k := 2) (n := 12) (Nat.le_of_ble_eq_true rfl) (Nat.le_of_ble_eq_true rfl) ?_
      exact vx_ret (retW_i hx hb hr hlocks hP hD hS ⟨_, rfl, rfl, rfl⟩ dX1_line_32)
  exact hL_7 mFU ((1 : Int32) <<< (p1 &&& (31 : Int32))) (0 : Int32) _ _ hP hD hS ls (lv_sub hl [2, 4, 1, 0] rfl) hrun
def rX1_pass : Room := { frames := 8, cells := 2, slots := 12, locals := 130 }
noncomputable def fX1_pass (sh : Kp) (sw : Wd) (p1 : Int32) (p2 : Int32) : Option ((String) ⊕ (Int32)) :=
  mox (fX1_roomAt p1) (fun E_3 => some (.inl E_3)) fun _ =>
  mox (fX1_roomAt p2) (fun E_6 => some (.inl E_6)) fun _ =>
  mob (fX1_stepsBy sh sw p1 p2 (1 : Int32)) fun r_8 =>
  mob (fX1_stepsBy sh sw p1 p2 (7 : Int32)) fun r_10 =>
  if (zmn r_8 r_10) < (1000000 : Int32) then
    some (.inr (zmn r_8 r_10))
  else
    some (.inr (-1 : Int32))
theorem kX1_pass {R : Room} {s : State} {args : Array Value} {own : String} {idx mc ms : Nat} {rm : Room} (hts : ∀ w ∈ lw_all, w.before args s = true) (hl : Cond.methodLink own idx yX1_pass ∈ lw_all) (hrc : rm.cells = mc) (hrs : rm.slots = ms) (hR : rm.frames + 1 ≤ R.frames ∧ 8 + (4 + 11) + rm.locals ≤ R.locals) : CallW R s args own RX1 idx yX1_pass cX1_pass 4 (some .int) (ws_ yX1_pass cX1_pass 4 (some .int)) rm mc ms 2 :=
  cwV 2 hts (lw_V hl q1831 q1832 q107 q1833) rfl hrc hrs (by decide +kernel) hR
set_option maxHeartbeats 4000000 in
set_option maxRecDepth 100000 in
theorem mtX1_pass (l : Launch) (D : va_G) (k : Nat → ClassId) (ah : Nat → Nat) (aw : Nat → Nat) (adr : Nat → Nat) (aim : Nat → Nat) (ard : Nat → Nat) (asc : Nat → Nat) (ath : Nat → Nat) (awl : Nat → Nat) (alo : Nat → Nat) (atr : Nat → Nat) (Z : zZ) (hOK : zOK D zCl (zTys k) Z) (hlt : l.stackTraces = false) (hTh : zTh Z) (sh : Kp) (sw : Wd) (p1 : Int32) (p2 : Int32) (o : (String) ⊕ (Int32)) (hrun : fX1_pass sh sw p1 p2 = some o) :
    CtX l yX1_pass cX1_pass 4 (some .int) rX1_pass Z D zCl ((cH k ah aw adr aim ard asc ath awl alo atr sh) ++ (cW k aw sw)) [.ref (ah 0), .int p1, .int p2] (fun r' w' => ∃ (r : Int32), o = .inr r ∧ r' = (some (.int r)) ∧ w' = ((cH k ah aw adr aim ard asc ath awl alo atr sh) ++ (cW k aw sw))) (fun E' w' => o = .inl E' ∧ w' = ((cH k ah aw adr aim ard asc ath awl alo atr sh) ++ (cW k aw sw))) 2 12 := by
  refine CtX.of (by decide) (Nat.le_of_ble_eq_true rfl) ?_
  intro p e s m args below meth c A hE hnoh hA hP hD hS hz ls hl
  obtain ⟨hx, hb, hr, hml, hown, hts, hlocks, hname⟩ := hE
  have hown : s.vm.findClass RX1 = some m.cls := hown
  have hK := hOK.1 _ _ _ hz
  have hN := hOK.2.1 _ _ _ hz
  have hl : lv_has ls 4 [(0, .ref (ah 0)), (1, .int p1), (2, .int p2)] := hl
  unfold fX1_pass at hrun
  refine lv_iload_n hx hb dX1_pass_0 rfl (lv_at hl 1 rfl) ?_
  obtain ⟨o_2, hc_1, hrun⟩ := mox_s rfl hrun
  have hP := hP.sub (ws' := ([] ++ ([] ++ ((cH k ah aw adr aim ard asc ath awl alo atr sh) ++ (cW k aw sw))))) [0, 1, 2, 3, 4, 5, 6, 7, 8, 9] rfl
  have hD := hD.sub (ws' := ([] ++ ([] ++ ((cH k ah aw adr aim ard asc ath awl alo atr sh) ++ (cW k aw sw))))) [0, 1, 2, 3, 4, 5, 6, 7, 8, 9] (by decide) rfl
  refine cXS [] [] ((cH k ah aw adr aim ard asc ath awl alo atr sh) ++ (cW k aw sw)) (As := [.int p1]) ⟨hx, hb, hml, hown, hts⟩ hOK hz hS hA hP hD (mtX1_roomAt l D Z hOK hlt hTh _ o_2 hc_1) (kX1_roomAt hts q1603 rfl rfl ⟨Nat.le_of_ble_eq_true rfl, Nat.le_of_ble_eq_true rfl⟩) rfl hl.1 rfl (lv_room (Nat.le_of_ble_eq_true rfl)) ⟨Nat.le_of_ble_eq_true rfl, Nat.le_of_ble_eq_true rfl⟩ dX1_pass_1 (fun E_ w_ ce_ q9_ H locs hq hP hD hS hce hcv hcl => ?_) (fun r_ w_ H locs hq hP hD hS => ?_)
  · obtain ⟨rfl, rfl⟩ := hq
    have hrun := moxl hrun
    cases hrun
    have hP := hP.sub (ws' := ((cH k ah aw adr aim ard asc ath awl alo atr sh) ++ (cW k aw sw))) [0, 1, 2, 3, 4, 5, 6, 7, 8, 9] rfl
    have hD := hD.sub (ws' := ((cH k ah aw adr aim ard asc ath awl alo atr sh) ++ (cW k aw sw))) [0, 1, 2, 3, 4, 5, 6, 7, 8, 9] (by decide) rfl
    exact zout hnoh hlocks hce hcv hcl hP hD hS ⟨rfl, rfl⟩ (Nat.le_of_ble_eq_true rfl) (Nat.le_of_ble_eq_true rfl)
  obtain ⟨rfl, rfl, rfl⟩ := hq
  have hrun := moxr hrun
  have hP := hP.sub (ws' := ((cH k ah aw adr aim ard asc ath awl alo atr sh) ++ (cW k aw sw))) [0, 1, 2, 3, 4, 5, 6, 7, 8, 9] rfl
  have hD := hD.sub (ws' := ((cH k ah aw adr aim ard asc ath awl alo atr sh) ++ (cW k aw sw))) [0, 1, 2, 3, 4, 5, 6, 7, 8, 9] (by decide) rfl
  refine lv_iload_n hx hb dX1_pass_4 rfl (lv_at hl 2 rfl) ?_
  obtain ⟨o_5, hc_4, hrun⟩ := mox_s rfl hrun
  have hP := hP.sub (ws' := ([] ++ ([] ++ ((cH k ah aw adr aim ard asc ath awl alo atr sh) ++ (cW k aw sw))))) [0, 1, 2, 3, 4, 5, 6, 7, 8, 9] rfl
  have hD := hD.sub (ws' := ([] ++ ([] ++ ((cH k ah aw adr aim ard asc ath awl alo atr sh) ++ (cW k aw sw))))) [0, 1, 2, 3, 4, 5, 6, 7, 8, 9] (by decide) rfl
  refine cXS [] [] ((cH k ah aw adr aim ard asc ath awl alo atr sh) ++ (cW k aw sw)) (As := [.int p2]) ⟨hx, hb, hml, hown, hts⟩ hOK hz hS hA hP hD (mtX1_roomAt l D Z hOK hlt hTh _ o_5 hc_4) (kX1_roomAt hts q1603 rfl rfl ⟨Nat.le_of_ble_eq_true rfl, Nat.le_of_ble_eq_true rfl⟩) rfl hl.1 rfl (lv_room (Nat.le_of_ble_eq_true rfl)) ⟨Nat.le_of_ble_eq_true rfl, Nat.le_of_ble_eq_true rfl⟩ dX1_pass_5 (fun E_ w_ ce_ q9_ H locs hq hP hD hS hce hcv hcl => ?_) (fun r_ w_ H locs hq hP hD hS => ?_)
  · obtain ⟨rfl, rfl⟩ := hq
    have hrun := moxl hrun
    cases hrun
    have hP := hP.sub (ws' := ((cH k ah aw adr aim ard asc ath awl alo atr sh) ++ (cW k aw sw))) [0, 1, 2, 3, 4, 5, 6, 7, 8, 9] rfl
    have hD := hD.sub (ws' := ((cH k ah aw adr aim ard asc ath awl alo atr sh) ++ (cW k aw sw))) [0, 1, 2, 3, 4, 5, 6, 7, 8, 9] (by decide) rfl
    exact zout hnoh hlocks hce hcv hcl hP hD hS ⟨rfl, rfl⟩ (Nat.le_of_ble_eq_true rfl) (Nat.le_of_ble_eq_true rfl)
  obtain ⟨rfl, rfl, rfl⟩ := hq
  have hrun := moxr hrun
  have hP := hP.sub (ws' := ((cH k ah aw adr aim ard asc ath awl alo atr sh) ++ (cW k aw sw))) [0, 1, 2, 3, 4, 5, 6, 7, 8, 9] rfl
  have hD := hD.sub (ws' := ((cH k ah aw adr aim ard asc ath awl alo atr sh) ++ (cW k aw sw))) [0, 1, 2, 3, 4, 5, 6, 7, 8, 9] (by decide) rfl
  refine lv_aload_n hx hb dX1_pass_8 rfl (lv_at hl 0 rfl) ?_
  refine lv_iload_n hx hb dX1_pass_9 rfl (lv_at hl 1 rfl) ?_
  refine lv_iload_n hx hb dX1_pass_10 rfl (lv_at hl 2 rfl) ?_
  refine lv_iconst (v := (1 : Int32)) hx hb dX1_pass_11 (by decide) ?_
  obtain ⟨r_8, hc_7, hrun⟩ := mob_s rfl hrun
  refine cRV (As := [.int p1, .int p2, .int (1 : Int32)]) (ci := 1) ⟨hx, hb, hml, hown, hts⟩ hOK hz hS hP (mtX1_stepsBy l D k ah aw adr aim ard asc ath awl alo atr Z hOK _ _ _ _ _ _ hc_7) (kX1_stepsBy hts q1834 rfl rfl ⟨Nat.le_of_ble_eq_true rfl, Nat.le_of_ble_eq_true rfl⟩) 0 rfl rfl rfl hl.1 rfl (lv_room (Nat.le_of_ble_eq_true rfl)) ⟨Nat.le_of_ble_eq_true rfl, Nat.le_of_ble_eq_true rfl⟩ dX1_pass_12 ?_
  refine lv_aload_n hx hb dX1_pass_15 rfl (lv_at hl 0 rfl) ?_
  refine lv_iload_n hx hb dX1_pass_16 rfl (lv_at hl 1 rfl) ?_
  refine lv_iload_n hx hb dX1_pass_17 rfl (lv_at hl 2 rfl) ?_
  refine lv_bipush (v := (7 : Int32)) hx hb dX1_pass_18 (by decide) ?_
  obtain ⟨r_10, hc_9, hrun⟩ := mob_s rfl hrun
  refine cRV (As := [.int p1, .int p2, .int (7 : Int32)]) (ci := 1) ⟨hx, hb, hml, hown, hts⟩ hOK hz hS hP (mtX1_stepsBy l D k ah aw adr aim ard asc ath awl alo atr Z hOK _ _ _ _ _ _ hc_9) (kX1_stepsBy hts q1834 rfl rfl ⟨Nat.le_of_ble_eq_true rfl, Nat.le_of_ble_eq_true rfl⟩) 0 rfl rfl rfl hl.1 rfl (lv_room (Nat.le_of_ble_eq_true rfl)) ⟨Nat.le_of_ble_eq_true rfl, Nat.le_of_ble_eq_true rfl⟩ dX1_pass_20 ?_
  refine va_mmin hx hb (hml.trans hl.1.symm) hown (hts _ q1690) (hts _ q550) (hts _ q122) (hts _ q551) (Nat.le_of_ble_eq_true rfl) (Nat.le_of_ble_eq_true rfl) (Nat.le_of_ble_eq_true rfl) (Nat.le_of_ble_eq_true rfl) dX1_pass_23 ?_
  refine lv_istore_n (lv' := [(3, .int (zmn r_8 r_10)), (0, .ref (ah 0)), (1, .int p1), (2, .int p2)]) hx hb dX1_pass_26 rfl hl (by decide) rfl (fun ls hl => ?_)
  refine lv_iload_n hx hb dX1_pass_27 rfl (lv_at hl 0 rfl) ?_
  refine lv_ldcw (v := (1000000 : Int32)) hx hb hown (hts _ q1838) dX1_pass_28 ?_
  refine lv_icmp_lt (tgt := 38) hx hb dX1_pass_31 (by decide) (fun c_11 => ?_) (fun c_11 => ?_)
  · have hrun := mif_p c_11 hrun
    refine lv_iload_n hx hb dX1_pass_38 rfl (lv_at hl 0 rfl) ?_
    cases hrun
    refine W.widen (k := 2) (n := 12) (Nat.le_of_ble_eq_true rfl) (Nat.le_of_ble_eq_true rfl) ?_
    exact vx_ret (retW_i hx hb hr hlocks hP hD hS ⟨_, rfl, rfl, rfl⟩ dX1_pass_39)
  have hrun := mif_n c_11 hrun
  refine lv_iconst (v := (-1 : Int32)) hx hb dX1_pass_34 (by decide) ?_
  refine lv_goto (tgt := 39) hx hb dX1_pass_35 (by decide) ?_
  cases hrun
  refine W.widen (k := 2) (n := 12) (Nat.le_of_ble_eq_true rfl) (Nat.le_of_ble_eq_true rfl) ?_
  exact vx_ret (retW_i hx hb hr hlocks hP hD hS ⟨_, rfl, rfl, rfl⟩ dX1_pass_39)
def rX1_led : Room := { frames := 8, cells := 1, slots := 6, locals := 131 }
noncomputable def fX1_led_L21 (K_7 : Int32 → Int32 → Option ((String) ⊕ (Int32))) (sh : Kp) (sw : Wd) (p1 : Int32) : Nat → Int32 → Int32 → Int32 → Option ((String) ⊕ (Int32))
  | 0, _, _, _ => none
  | n + 1, x3_10, x4_11, x5_12 =>
    if x5_12 < (0 : Int32) then
      K_7 x3_10 x4_11
    else
      mob (fX1_ofLog sh sw x5_12 (1 : Int32)) fun r_15 =>
      if r_15 = p1 then
        mob (fX1_ofLog sh sw x5_12 (0 : Int32)) fun r_18 =>
        fX1_led_L21 K_7 sh sw p1 n (x3_10 + (1 : Int32)) r_18 (x5_12 + (-1 : Int32))
      else
        fX1_led_L21 K_7 sh sw p1 n x3_10 x4_11 (x5_12 + (-1 : Int32))
noncomputable def fX1_led (sh : Kp) (sw : Wd) (p1 : Int32) (p2 : Bool) : Option ((String) ⊕ (Int32)) :=
  mox (fX1_guestAt sh sw p1) (fun E_3 => some (.inl E_3)) fun _ =>
  mjn (fun (x3_5 : Int32) (x4_6 : Int32) =>
  if p2 = true then
    some (.inr x4_6)
  else
    some (.inr x3_5)) fun K_7 =>
  fX1_led_L21 K_7 sh sw p1 mFU (0 : Int32) (-1 : Int32) ((wd_logged sw) - (1 : Int32))
theorem kX1_led {R : Room} {s : State} {args : Array Value} {own : String} {idx mc ms : Nat} {rm : Room} (hts : ∀ w ∈ lw_all, w.before args s = true) (hl : Cond.methodLink own idx yX1_led ∈ lw_all) (hrc : rm.cells = mc) (hrs : rm.slots = ms) (hR : rm.frames + 1 ≤ R.frames ∧ 8 + (6 + 11) + rm.locals ≤ R.locals) : CallW R s args own RX1 idx yX1_led cX1_led 6 (some .int) (ws_ yX1_led cX1_led 6 (some .int)) rm mc ms 2 :=
  cwV 2 hts (lw_V hl q1882 q1883 q107 q1884) rfl hrc hrs (by decide +kernel) hR
set_option maxHeartbeats 4000000 in
set_option maxRecDepth 100000 in
theorem mtX1_led (l : Launch) (D : va_G) (k : Nat → ClassId) (ah : Nat → Nat) (aw : Nat → Nat) (adr : Nat → Nat) (aim : Nat → Nat) (ard : Nat → Nat) (asc : Nat → Nat) (ath : Nat → Nat) (awl : Nat → Nat) (alo : Nat → Nat) (atr : Nat → Nat) (Z : zZ) (hOK : zOK D zCl (zTys k) Z) (hlt : l.stackTraces = false) (hTh : zTh Z) (sh : Kp) (sw : Wd) (p1 : Int32) (p2 : Bool) (o : (String) ⊕ (Int32)) (hrun : fX1_led sh sw p1 p2 = some o) :
    CtX l yX1_led cX1_led 6 (some .int) rX1_led Z D zCl ((cH k ah aw adr aim ard asc ath awl alo atr sh) ++ (cW k aw sw)) [.ref (ah 0), .int p1, .int (bz p2)] (fun r' w' => ∃ (r : Int32), o = .inr r ∧ r' = (some (.int r)) ∧ w' = ((cH k ah aw adr aim ard asc ath awl alo atr sh) ++ (cW k aw sw))) (fun E' w' => o = .inl E' ∧ w' = ((cH k ah aw adr aim ard asc ath awl alo atr sh) ++ (cW k aw sw))) 1 6 := by
  refine CtX.of (by decide) (Nat.le_of_ble_eq_true rfl) ?_
  intro p e s m args below meth c A hE hnoh hA hP hD hS hz ls hl
  obtain ⟨hx, hb, hr, hml, hown, hts, hlocks, hname⟩ := hE
  have hown : s.vm.findClass RX1 = some m.cls := hown
  have hK := hOK.1 _ _ _ hz
  have hN := hOK.2.1 _ _ _ hz
  have hl : lv_has ls 6 [(0, .ref (ah 0)), (1, .int p1), (2, .int (bz p2))] := hl
  unfold fX1_led at hrun
  refine lv_aload_n hx hb dX1_led_0 rfl (lv_at hl 0 rfl) ?_
  refine lv_iload_n hx hb dX1_led_1 rfl (lv_at hl 1 rfl) ?_
  obtain ⟨o_2, hc_1, hrun⟩ := mox_s rfl hrun
  have hP := hP.sub (ws' := ([] ++ (((cH k ah aw adr aim ard asc ath awl alo atr sh) ++ (cW k aw sw)) ++ []))) [0, 1, 2, 3, 4, 5, 6, 7, 8, 9] rfl
  have hD := hD.sub (ws' := ([] ++ (((cH k ah aw adr aim ard asc ath awl alo atr sh) ++ (cW k aw sw)) ++ []))) [0, 1, 2, 3, 4, 5, 6, 7, 8, 9] (by decide) rfl
  refine cXV [] ((cH k ah aw adr aim ard asc ath awl alo atr sh) ++ (cW k aw sw)) [] (As := [.int p1]) (ci := 1) ⟨hx, hb, hml, hown, hts⟩ hOK hz hS hA hP hD (mtX1_guestAt l D k ah aw adr aim ard asc ath awl alo atr Z hOK hlt hTh _ _ _ o_2 hc_1) (kX1_guestAt hts q1552 rfl rfl ⟨Nat.le_of_ble_eq_true rfl, Nat.le_of_ble_eq_true rfl⟩) 0 rfl rfl rfl hl.1 rfl (lv_room (Nat.le_of_ble_eq_true rfl)) ⟨Nat.le_of_ble_eq_true rfl, Nat.le_of_ble_eq_true rfl⟩ dX1_led_2 (fun E_ w_ ce_ q9_ H locs hq hP hD hS hce hcv hcl => ?_) (fun r_ w_ H locs hq hP hD hS => ?_)
  · obtain ⟨rfl, rfl⟩ := hq
    have hrun := moxl hrun
    cases hrun
    have hP := hP.sub (ws' := ((cH k ah aw adr aim ard asc ath awl alo atr sh) ++ (cW k aw sw))) [0, 1, 2, 3, 4, 5, 6, 7, 8, 9] rfl
    have hD := hD.sub (ws' := ((cH k ah aw adr aim ard asc ath awl alo atr sh) ++ (cW k aw sw))) [0, 1, 2, 3, 4, 5, 6, 7, 8, 9] (by decide) rfl
    exact zout hnoh hlocks hce hcv hcl hP hD hS ⟨rfl, rfl⟩ (Nat.le_of_ble_eq_true rfl) (Nat.le_of_ble_eq_true rfl)
  obtain ⟨rfl, rfl, rfl⟩ := hq
  have hrun := moxr hrun
  have hP := hP.sub (ws' := ((cH k ah aw adr aim ard asc ath awl alo atr sh) ++ (cW k aw sw))) [0, 1, 2, 3, 4, 5, 6, 7, 8, 9] rfl
  have hD := hD.sub (ws' := ((cH k ah aw adr aim ard asc ath awl alo atr sh) ++ (cW k aw sw))) [0, 1, 2, 3, 4, 5, 6, 7, 8, 9] (by decide) rfl
  refine lv_iconst (v := (0 : Int32)) hx hb dX1_led_5 (by decide) ?_
  refine lv_istore_n (lv' := [(3, .int (0 : Int32)), (0, .ref (ah 0)), (1, .int p1), (2, .int (bz p2))]) hx hb dX1_led_6 rfl hl (by decide) rfl (fun ls hl => ?_)
  refine lv_iconst (v := (-1 : Int32)) hx hb dX1_led_7 (by decide) ?_
  refine lv_istore (lv' := [(4, .int (-1 : Int32)), (3, .int (0 : Int32)), (0, .ref (ah 0)), (1, .int p1), (2, .int (bz p2))]) hx hb dX1_led_8 hl (by decide) rfl (fun ls hl => ?_)
  refine lv_aload_n hx hb dX1_led_10 rfl (lv_at hl 2 rfl) ?_
  refine va_get (ci := 1) (v := .ref (aw 0)) (C := RX1) (T := TX1) (N := 10) hx hb hts in_X1 hown hK hP 0 rfl rfl 0 (by decide) (hts _ q370) (fun _ h9 => h9) rfl dX1_led_11 ?_
  refine va_getN (ci := 2) (v := .int (wd_logged sw)) (C := RX2) (T := TX2) (N := 21) hx hb hts in_X2 hown hK hP 1 rfl rfl 10 (by decide) (va_Nw.use rfl (hN _ (zN_of q185 rfl))) (fun _ h9 => h9) rfl dX1_led_14 ?_
  refine lv_iconst (v := (1 : Int32)) hx hb dX1_led_17 (by decide) ?_
  refine lv_isub hx hb dX1_led_18 ?_
  refine lv_istore (lv' := [(5, .int ((wd_logged sw) - (1 : Int32))), (4, .int (-1 : Int32)), (3, .int (0 : Int32)), (0, .ref (ah 0)), (1, .int p1), (2, .int (bz p2))]) hx hb dX1_led_19 hl (by decide) rfl (fun ls hl => ?_)
  obtain ⟨K_7, hK_7, hrun⟩ := mjn_s hrun
  have hj_4 : ∀ (x3_5 : Int32) (x4_6 : Int32), ∀ (H : Heap) (locs : List Loc), va_P D zCl ((cH k ah aw adr aim ard asc ath awl alo atr sh) ++ (cW k aw sw)) H → va_D A ((cH k ah aw adr aim ard asc ath awl alo atr sh) ++ (cW k aw sw)) → va_S A s.heap H locs → ∀ ls : Array Slot, lv_has ls 6 [(2, .int (bz p2)), (3, .int x3_5), (4, .int x4_6)] → K_7 x3_5 x4_6 = some o → W p l e rX1_led s m args below meth c H locs 1 6 (vx_MQ below (QWr (fun r' w' => ∃ (r : Int32), o = .inr r ∧ r' = (some (.int r)) ∧ w' = ((cH k ah aw adr aim ard asc ath awl alo atr sh) ++ (cW k aw sw))) D zCl A) (QXr (fun E' w' => o = .inl E' ∧ w' = ((cH k ah aw adr aim ard asc ath awl alo atr sh) ++ (cW k aw sw))) D zCl A) args s 1 6 A) (F0 m 58 ls []) := by
    intro x3_5 x4_6 H locs hP hD hS ls hl hrun
    rw [hK_7] at hrun
    refine lv_iload_n hx hb dX1_led_58 rfl (lv_at hl 0 rfl) ?_
    refine lv_if_eq (tgt := 67) hx hb dX1_led_59 (by decide) (fun c_8 => ?_) (fun c_8 => ?_)
    · have hrun := mif_n (bz_z c_8) hrun
      refine lv_iload_n hx hb dX1_led_67 rfl (lv_at hl 1 rfl) ?_
      cases hrun
      refine W.widen (k := 1) (n := 6) (Nat.le_of_ble_eq_true rfl) (Nat.le_of_ble_eq_true rfl) ?_
      exact vx_ret (retW_i hx hb hr hlocks hP hD hS ⟨_, rfl, rfl, rfl⟩ dX1_led_68)
    have hrun := mif_p (bz_nz c_8) hrun
    refine lv_iload hx hb dX1_led_62 (lv_at hl 2 rfl) ?_
    refine lv_goto (tgt := 68) hx hb dX1_led_64 (by decide) ?_
    cases hrun
    refine W.widen (k := 1) (n := 6) (Nat.le_of_ble_eq_true rfl) (Nat.le_of_ble_eq_true rfl) ?_
    exact vx_ret (retW_i hx hb hr hlocks hP hD hS ⟨_, rfl, rfl, rfl⟩ dX1_led_68)
  have hL_9 : ∀ n : Nat, ∀ (x3_10 : Int32) (x4_11 : Int32) (x5_12 : Int32), ∀ (H : Heap) (locs : List Loc), va_P D zCl ((cH k ah aw adr aim ard asc ath awl alo atr sh) ++ (cW k aw sw)) H → va_D A ((cH k ah aw adr aim ard asc ath awl alo atr sh) ++ (cW k aw sw)) → va_S A s.heap H locs → ∀ ls : Array Slot, lv_has ls 6 [(0, .ref (ah 0)), (1, .int p1), (2, .int (bz p2)), (3, .int x3_10), (4, .int x4_11), (5, .int x5_12)] → fX1_led_L21 K_7 sh sw p1 n x3_10 x4_11 x5_12 = some o → W p l e rX1_led s m args below meth c H locs 1 6 (vx_MQ below (QWr (fun r' w' => ∃ (r : Int32), o = .inr r ∧ r' = (some (.int r)) ∧ w' = ((cH k ah aw adr aim ard asc ath awl alo atr sh) ++ (cW k aw sw))) D zCl A) (QXr (fun E' w' => o = .inl E' ∧ w' = ((cH k ah aw adr aim ard asc ath awl alo atr sh) ++ (cW k aw sw))) D zCl A) args s 1 6 A) (F0 m 21 ls []) := by
    intro n
    induction n with
    | zero =>
      intro x3_10 x4_11 x5_12 H locs hP hD hS ls hl hrun
      exact nomatch hrun
    | succ n ih =>
      intro x3_10 x4_11 x5_12 H locs hP hD hS ls hl hrun
      rw [fX1_led_L21.eq_2] at hrun
      refine lv_iload hx hb dX1_led_21 (lv_at hl 5 rfl) ?_
      refine lv_if_lt (tgt := 58) hx hb dX1_led_23 (by decide) (fun c_13 => ?_) (fun c_13 => ?_)
      · have hrun := mif_p c_13 hrun
        exact hj_4 x3_10 x4_11 _ _ hP hD hS ls (lv_sub hl [2, 3, 4] rfl) hrun
      have hrun := mif_n c_13 hrun
      refine lv_aload_n hx hb dX1_led_26 rfl (lv_at hl 0 rfl) ?_
      refine lv_iload hx hb dX1_led_27 (lv_at hl 5 rfl) ?_
      refine lv_iconst (v := (1 : Int32)) hx hb dX1_led_29 (by decide) ?_
      obtain ⟨r_15, hc_14, hrun⟩ := mob_s rfl hrun
      refine cRV (As := [.int x5_12, .int (1 : Int32)]) (ci := 1) ⟨hx, hb, hml, hown, hts⟩ hOK hz hS hP (mtX1_ofLog l D k ah aw adr aim ard asc ath awl alo atr Z hOK _ _ _ _ _ hc_14) (kX1_ofLog hts q1885 rfl rfl ⟨Nat.le_of_ble_eq_true rfl, Nat.le_of_ble_eq_true rfl⟩) 0 rfl rfl rfl hl.1 rfl (lv_room (Nat.le_of_ble_eq_true rfl)) ⟨Nat.le_of_ble_eq_true rfl, Nat.le_of_ble_eq_true rfl⟩ dX1_led_30 ?_
      refine lv_iload_n hx hb dX1_led_33 rfl (lv_at hl 1 rfl) ?_
      refine lv_icmp_eq (tgt := 40) hx hb dX1_led_34 (by decide) (fun c_16 => ?_) (fun c_16 => ?_)
      · have hrun := mif_p c_16 hrun
        refine lv_iinc (v := (x3_10 + (1 : Int32))) (lv' := [(3, .int (x3_10 + (1 : Int32))), (0, .ref (ah 0)), (1, .int p1), (2, .int (bz p2)), (4, .int x4_11), (5, .int x5_12)]) hx hb dX1_led_40 hl (k := 3) rfl rfl (by decide) rfl (fun ls hl => ?_)
        refine lv_aload_n hx hb dX1_led_43 rfl (lv_at hl 1 rfl) ?_
        refine lv_iload hx hb dX1_led_44 (lv_at hl 5 rfl) ?_
        refine lv_iconst (v := (0 : Int32)) hx hb dX1_led_46 (by decide) ?_
        obtain ⟨r_18, hc_17, hrun⟩ := mob_s rfl hrun
        refine cRV (As := [.int x5_12, .int (0 : Int32)]) (ci := 1) ⟨hx, hb, hml, hown, hts⟩ hOK hz hS hP (mtX1_ofLog l D k ah aw adr aim ard asc ath awl alo atr Z hOK _ _ _ _ _ hc_17) (kX1_ofLog hts q1885 rfl rfl ⟨Nat.le_of_ble_eq_true rfl, Nat.le_of_ble_eq_true rfl⟩) 0 rfl rfl rfl hl.1 rfl (lv_room (Nat.le_of_ble_eq_true rfl)) ⟨Nat.le_of_ble_eq_true rfl, Nat.le_of_ble_eq_true rfl⟩ dX1_led_47 ?_
        refine lv_istore (lv' := [(4, .int r_18), (3, .int (x3_10 + (1 : Int32))), (0, .ref (ah 0)), (1, .int p1), (2, .int (bz p2)), (5, .int x5_12)]) hx hb dX1_led_50 hl (by decide) rfl (fun ls hl => ?_)
        refine lv_iinc (v := (x5_12 + (-1 : Int32))) (lv' := [(5, .int (x5_12 + (-1 : Int32))), (4, .int r_18), (3, .int (x3_10 + (1 : Int32))), (0, .ref (ah 0)), (1, .int p1), (2, .int (bz p2))]) hx hb dX1_led_52 hl (k := 5) rfl rfl (by decide) rfl (fun ls hl => ?_)
        refine lv_goto (tgt := 21) hx hb dX1_led_55 (by decide) ?_
        exact ih (x3_10 + (1 : Int32)) r_18 (x5_12 + (-1 : Int32)) _ _ hP hD hS ls (lv_sub hl [3, 4, 5, 2, 1, 0] rfl) hrun
      have hrun := mif_n c_16 hrun
      refine lv_goto (tgt := 52) hx hb dX1_led_37 (by decide) ?_
      refine lv_iinc (v := (x5_12 + (-1 : Int32))) (lv' := [(5, .int (x5_12 + (-1 : Int32))), (0, .ref (ah 0)), (1, .int p1), (2, .int (bz p2)), (3, .int x3_10), (4, .int x4_11)]) hx hb dX1_led_52 hl (k := 5) rfl rfl (by decide) rfl (fun ls hl => ?_)
      refine lv_goto (tgt := 21) hx hb dX1_led_55 (by decide) ?_
      exact ih x3_10 x4_11 (x5_12 + (-1 : Int32)) _ _ hP hD hS ls (lv_sub hl [1, 2, 3, 4, 5, 0] rfl) hrun
  exact hL_9 mFU (0 : Int32) (-1 : Int32) ((wd_logged sw) - (1 : Int32)) _ _ hP hD hS ls (lv_sub hl [3, 4, 5, 2, 1, 0] rfl) hrun
def rX1_log : Room := { frames := 7, cells := 1, slots := 6, locals := 110 }
noncomputable def fX1_log (sh : Kp) (sw : Wd) (p1 : Int32) (p2 : Int32) : Option ((String) ⊕ (Int32)) :=
  mox (fX1_question p2 (3 : Int32)) (fun E_3 => some (.inl E_3)) fun _ =>
  mob (fX1_in p1 (0 : Int32) ((wd_logged sw) - (1 : Int32))) fun r_5 =>
  if r_5 = true then
    mob (fX1_ofLog sh sw p1 p2) fun r_8 =>
    some (.inr r_8)
  else
    some (.inr (-1 : Int32))
theorem kX1_log {R : Room} {s : State} {args : Array Value} {own : String} {idx mc ms : Nat} {rm : Room} (hts : ∀ w ∈ lw_all, w.before args s = true) (hl : Cond.methodLink own idx yX1_log ∈ lw_all) (hrc : rm.cells = mc) (hrs : rm.slots = ms) (hR : rm.frames + 1 ≤ R.frames ∧ 8 + (3 + 11) + rm.locals ≤ R.locals) : CallW R s args own RX1 idx yX1_log cX1_log 3 (some .int) (ws_ yX1_log cX1_log 3 (some .int)) rm mc ms 2 :=
  cwV 2 hts (lw_V hl q1893 q1894 q107 q1895) rfl hrc hrs (by decide +kernel) hR
set_option maxHeartbeats 4000000 in
set_option maxRecDepth 100000 in
theorem mtX1_log (l : Launch) (D : va_G) (k : Nat → ClassId) (ah : Nat → Nat) (aw : Nat → Nat) (adr : Nat → Nat) (aim : Nat → Nat) (ard : Nat → Nat) (asc : Nat → Nat) (ath : Nat → Nat) (awl : Nat → Nat) (alo : Nat → Nat) (atr : Nat → Nat) (Z : zZ) (hOK : zOK D zCl (zTys k) Z) (hlt : l.stackTraces = false) (hTh : zTh Z) (sh : Kp) (sw : Wd) (p1 : Int32) (p2 : Int32) (o : (String) ⊕ (Int32)) (hrun : fX1_log sh sw p1 p2 = some o) :
    CtX l yX1_log cX1_log 3 (some .int) rX1_log Z D zCl ((cH k ah aw adr aim ard asc ath awl alo atr sh) ++ (cW k aw sw)) [.ref (ah 0), .int p1, .int p2] (fun r' w' => ∃ (r : Int32), o = .inr r ∧ r' = (some (.int r)) ∧ w' = ((cH k ah aw adr aim ard asc ath awl alo atr sh) ++ (cW k aw sw))) (fun E' w' => o = .inl E' ∧ w' = ((cH k ah aw adr aim ard asc ath awl alo atr sh) ++ (cW k aw sw))) 1 6 := by
  refine CtX.of (by decide) (Nat.le_of_ble_eq_true rfl) ?_
  intro p e s m args below meth c A hE hnoh hA hP hD hS hz ls hl
  obtain ⟨hx, hb, hr, hml, hown, hts, hlocks, hname⟩ := hE
  have hown : s.vm.findClass RX1 = some m.cls := hown
  have hK := hOK.1 _ _ _ hz
  have hN := hOK.2.1 _ _ _ hz
  have hl : lv_has ls 3 [(0, .ref (ah 0)), (1, .int p1), (2, .int p2)] := hl
  unfold fX1_log at hrun
  refine lv_iload_n hx hb dX1_log_0 rfl (lv_at hl 2 rfl) ?_
  refine lv_iconst (v := (3 : Int32)) hx hb dX1_log_1 (by decide) ?_
  obtain ⟨o_2, hc_1, hrun⟩ := mox_s rfl hrun
  have hP := hP.sub (ws' := ([] ++ ([] ++ ((cH k ah aw adr aim ard asc ath awl alo atr sh) ++ (cW k aw sw))))) [0, 1, 2, 3, 4, 5, 6, 7, 8, 9] rfl
  have hD := hD.sub (ws' := ([] ++ ([] ++ ((cH k ah aw adr aim ard asc ath awl alo atr sh) ++ (cW k aw sw))))) [0, 1, 2, 3, 4, 5, 6, 7, 8, 9] (by decide) rfl
  refine cXS [] [] ((cH k ah aw adr aim ard asc ath awl alo atr sh) ++ (cW k aw sw)) (As := [.int p2, .int (3 : Int32)]) ⟨hx, hb, hml, hown, hts⟩ hOK hz hS hA hP hD (mtX1_question l D Z hOK hlt hTh _ _ o_2 hc_1) (kX1_question hts q1574 rfl rfl ⟨Nat.le_of_ble_eq_true rfl, Nat.le_of_ble_eq_true rfl⟩) rfl hl.1 rfl (lv_room (Nat.le_of_ble_eq_true rfl)) ⟨Nat.le_of_ble_eq_true rfl, Nat.le_of_ble_eq_true rfl⟩ dX1_log_2 (fun E_ w_ ce_ q9_ H locs hq hP hD hS hce hcv hcl => ?_) (fun r_ w_ H locs hq hP hD hS => ?_)
  · obtain ⟨rfl, rfl⟩ := hq
    have hrun := moxl hrun
    cases hrun
    have hP := hP.sub (ws' := ((cH k ah aw adr aim ard asc ath awl alo atr sh) ++ (cW k aw sw))) [0, 1, 2, 3, 4, 5, 6, 7, 8, 9] rfl
    have hD := hD.sub (ws' := ((cH k ah aw adr aim ard asc ath awl alo atr sh) ++ (cW k aw sw))) [0, 1, 2, 3, 4, 5, 6, 7, 8, 9] (by decide) rfl
    exact zout hnoh hlocks hce hcv hcl hP hD hS ⟨rfl, rfl⟩ (Nat.le_of_ble_eq_true rfl) (Nat.le_of_ble_eq_true rfl)
  obtain ⟨rfl, rfl, rfl⟩ := hq
  have hrun := moxr hrun
  have hP := hP.sub (ws' := ((cH k ah aw adr aim ard asc ath awl alo atr sh) ++ (cW k aw sw))) [0, 1, 2, 3, 4, 5, 6, 7, 8, 9] rfl
  have hD := hD.sub (ws' := ((cH k ah aw adr aim ard asc ath awl alo atr sh) ++ (cW k aw sw))) [0, 1, 2, 3, 4, 5, 6, 7, 8, 9] (by decide) rfl
  refine lv_iload_n hx hb dX1_log_5 rfl (lv_at hl 1 rfl) ?_
  refine lv_iconst (v := (0 : Int32)) hx hb dX1_log_6 (by decide) ?_
  refine lv_aload_n hx hb dX1_log_7 rfl (lv_at hl 0 rfl) ?_
  refine va_get (ci := 1) (v := .ref (aw 0)) (C := RX1) (T := TX1) (N := 10) hx hb hts in_X1 hown hK hP 0 rfl rfl 0 (by decide) (hts _ q370) (fun _ h9 => h9) rfl dX1_log_8 ?_
  refine va_getN (ci := 2) (v := .int (wd_logged sw)) (C := RX2) (T := TX2) (N := 21) hx hb hts in_X2 hown hK hP 1 rfl rfl 10 (by decide) (va_Nw.use rfl (hN _ (zN_of q185 rfl))) (fun _ h9 => h9) rfl dX1_log_11 ?_
  refine lv_iconst (v := (1 : Int32)) hx hb dX1_log_14 (by decide) ?_
  refine lv_isub hx hb dX1_log_15 ?_
  obtain ⟨r_5, hc_4, hrun⟩ := mob_s rfl hrun
  refine cRS (ws := []) (As := [.int p1, .int (0 : Int32), .int ((wd_logged sw) - (1 : Int32))]) ⟨hx, hb, hml, hown, hts⟩ hOK hz hS zP0 (mtX1_in l D Z hOK _ _ _ _ hc_4) (kX1_in hts q647 rfl rfl ⟨Nat.le_of_ble_eq_true rfl, Nat.le_of_ble_eq_true rfl⟩) rfl hl.1 rfl (lv_room (Nat.le_of_ble_eq_true rfl)) ⟨Nat.le_of_ble_eq_true rfl, Nat.le_of_ble_eq_true rfl⟩ dX1_log_16 ?_
  refine lv_if_eq (tgt := 31) hx hb dX1_log_19 (by decide) (fun c_6 => ?_) (fun c_6 => ?_)
  · have hrun := mif_n (bz_z c_6) hrun
    refine lv_iconst (v := (-1 : Int32)) hx hb dX1_log_31 (by decide) ?_
    cases hrun
    refine W.widen (k := 1) (n := 6) (Nat.le_of_ble_eq_true rfl) (Nat.le_of_ble_eq_true rfl) ?_
    exact vx_ret (retW_i hx hb hr hlocks hP hD hS ⟨_, rfl, rfl, rfl⟩ dX1_log_32)
  have hrun := mif_p (bz_nz c_6) hrun
  refine lv_aload_n hx hb dX1_log_22 rfl (lv_at hl 0 rfl) ?_
  refine lv_iload_n hx hb dX1_log_23 rfl (lv_at hl 1 rfl) ?_
  refine lv_iload_n hx hb dX1_log_24 rfl (lv_at hl 2 rfl) ?_
  obtain ⟨r_8, hc_7, hrun⟩ := mob_s rfl hrun
  refine cRV (As := [.int p1, .int p2]) (ci := 1) ⟨hx, hb, hml, hown, hts⟩ hOK hz hS hP (mtX1_ofLog l D k ah aw adr aim ard asc ath awl alo atr Z hOK _ _ _ _ _ hc_7) (kX1_ofLog hts q1885 rfl rfl ⟨Nat.le_of_ble_eq_true rfl, Nat.le_of_ble_eq_true rfl⟩) 0 rfl rfl rfl hl.1 rfl (lv_room (Nat.le_of_ble_eq_true rfl)) ⟨Nat.le_of_ble_eq_true rfl, Nat.le_of_ble_eq_true rfl⟩ dX1_log_25 ?_
  refine lv_goto (tgt := 32) hx hb dX1_log_28 (by decide) ?_
  cases hrun
  refine W.widen (k := 1) (n := 6) (Nat.le_of_ble_eq_true rfl) (Nat.le_of_ble_eq_true rfl) ?_
  exact vx_ret (retW_i hx hb hr hlocks hP hD hS ⟨_, rfl, rfl, rfl⟩ dX1_log_32)
