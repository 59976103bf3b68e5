/-! walks: X1_sent, X1_rests -/
def rX1_sent : Room := { frames := 7, cells := 1, slots := 6, locals := 109 }
noncomputable def fX1_sent_L40 (r_9 : Int32) (sh : Kp) (sw : Wd) (r_7 : Int32) (p1 : Int32) : Nat → Int32 → Int32 → Option ((String) ⊕ (Int32))
  | 0, _, _ => none
  | n + 1, x4_11, x5_12 =>
    if r_9 < x5_12 then
      some (.inr x4_11)
    else
      if (x5_12 &&& (r_9 ^^^ (-1 : Int32))) = (0 : Int32) then
        mob (fX1_oddsOf sh sw (r_7 &&& (x5_12 ^^^ (-1 : Int32)))) fun r_16 =>
        if p1 < r_16 then
          fX1_sent_L40 r_9 sh sw r_7 p1 n x4_11 (x5_12 + (1 : Int32))
        else
          if x4_11 = (-1 : Int32) then
            fX1_sent_L40 r_9 sh sw r_7 p1 n x5_12 (x5_12 + (1 : Int32))
          else
            mob (fJ16_bitCount x5_12) fun r_20 =>
            mob (fJ16_bitCount x4_11) fun r_22 =>
            if r_22 ≤ r_20 then
              fX1_sent_L40 r_9 sh sw r_7 p1 n x4_11 (x5_12 + (1 : Int32))
            else
              fX1_sent_L40 r_9 sh sw r_7 p1 n x5_12 (x5_12 + (1 : Int32))
      else
        fX1_sent_L40 r_9 sh sw r_7 p1 n x4_11 (x5_12 + (1 : Int32))
noncomputable def fX1_sent (sh : Kp) (sw : Wd) (p1 : Int32) : Option ((String) ⊕ (Int32)) :=
  mob (fX1_in p1 (0 : Int32) (9999 : Int32)) fun r_2 =>
  mox (fX1_demand r_2) (fun E_5 => some (.inl E_5)) fun _ =>
  mob (fX2_watchers sw (wd_bath sw)) fun r_7 =>
  mob (fX2_hereOnes sw) fun r_9 =>
  fX1_sent_L40 r_9 sh sw r_7 p1 mFU (-1 : Int32) (0 : Int32)
theorem kX1_sent {R : Room} {s : State} {args : Array Value} {own : String} {idx mc ms : Nat} {rm : Room} (hts : ∀ w ∈ lw_all, w.before args s = true) (hl : Cond.methodLink own idx yX1_sent ∈ lw_all) (hrc : rm.cells = mc) (hrs : rm.slots = ms) (hR : rm.frames + 1 ≤ R.frames ∧ 8 + (6 + 11) + rm.locals ≤ R.locals) : CallW R s args own RX1 idx yX1_sent cX1_sent 6 (some .int) (ws_ yX1_sent cX1_sent 6 (some .int)) rm mc ms 1 :=
  cwV 1 hts (lw_V hl q1757 q1758 q107 q1759) rfl hrc hrs (by decide +kernel) hR
set_option maxHeartbeats 4000000 in
set_option maxRecDepth 100000 in
theorem mtX1_sent (l : Launch) (D : va_G) (k : Nat → ClassId) (ah : Nat → Nat) (aw : Nat → Nat) (adr : Nat → Nat) (aim : Nat → Nat) (ard : Nat → Nat) (asc : Nat → Nat) (ath : Nat → Nat) (awl : Nat → Nat) (alo : Nat → Nat) (atr : Nat → Nat) (Z : zZ) (hOK : zOK D zCl (zTys k) Z) (hlt : l.stackTraces = false) (hTh : zTh Z) (sh : Kp) (sw : Wd) (p1 : Int32) (o : (String) ⊕ (Int32)) (hrun : fX1_sent sh sw p1 = some o) :
    CtX l yX1_sent cX1_sent 6 (some .int) rX1_sent Z D zCl ((cH k ah aw adr aim ard asc ath awl alo atr sh) ++ (cW k aw sw)) [.ref (ah 0), .int p1] (fun r' w' => ∃ (r : Int32), o = .inr r ∧ r' = (some (.int r)) ∧ w' = ((cH k ah aw adr aim ard asc ath awl alo atr sh) ++ (cW k aw sw))) (fun E' w' => o = .inl E' ∧ w' = ((cH k ah aw adr aim ard asc ath awl alo atr sh) ++ (cW k aw sw))) 1 6 := by
  refine CtX.of (by decide) (Nat.le_of_ble_eq_true rfl) ?_
  intro p e s m args below meth c A hE hnoh hA hP hD hS hz ls hl
  obtain ⟨hx, hb, hr, hml, hown, hts, hlocks, hname⟩ := hE
  have hown : s.vm.findClass RX1 = some m.cls := hown
  have hK := hOK.1 _ _ _ hz
  have hN := hOK.2.1 _ _ _ hz
  have hl : lv_has ls 6 [(0, .ref (ah 0)), (1, .int p1)] := hl
  unfold fX1_sent at hrun
  refine lv_iload_n hx hb dX1_sent_0 rfl (lv_at hl 1 rfl) ?_
  refine lv_iconst (v := (0 : Int32)) hx hb dX1_sent_1 (by decide) ?_
  refine lv_sipush (v := (9999 : Int32)) hx hb dX1_sent_2 (by decide) ?_
  obtain ⟨r_2, hc_1, hrun⟩ := mob_s rfl hrun
  refine cRS (ws := []) (As := [.int p1, .int (0 : Int32), .int (9999 : Int32)]) ⟨hx, hb, hml, hown, hts⟩ hOK hz hS zP0 (mtX1_in l D Z hOK _ _ _ _ hc_1) (kX1_in hts q647 rfl rfl ⟨Nat.le_of_ble_eq_true rfl, Nat.le_of_ble_eq_true rfl⟩) rfl hl.1 rfl (lv_room (Nat.le_of_ble_eq_true rfl)) ⟨Nat.le_of_ble_eq_true rfl, Nat.le_of_ble_eq_true rfl⟩ dX1_sent_5 ?_
  obtain ⟨o_4, hc_3, hrun⟩ := mox_s rfl hrun
  have hP := hP.sub (ws' := ([] ++ ([] ++ ((cH k ah aw adr aim ard asc ath awl alo atr sh) ++ (cW k aw sw))))) [0, 1, 2, 3, 4, 5, 6, 7, 8, 9] rfl
  have hD := hD.sub (ws' := ([] ++ ([] ++ ((cH k ah aw adr aim ard asc ath awl alo atr sh) ++ (cW k aw sw))))) [0, 1, 2, 3, 4, 5, 6, 7, 8, 9] (by decide) rfl
  refine cXS [] [] ((cH k ah aw adr aim ard asc ath awl alo atr sh) ++ (cW k aw sw)) (As := [.int (bz r_2)]) ⟨hx, hb, hml, hown, hts⟩ hOK hz hS hA hP hD (mtX1_demand l D Z hOK hlt hTh _ o_4 hc_3) (kX1_demand hts q1627 rfl rfl ⟨Nat.le_of_ble_eq_true rfl, Nat.le_of_ble_eq_true rfl⟩) rfl hl.1 rfl (lv_room (Nat.le_of_ble_eq_true rfl)) ⟨Nat.le_of_ble_eq_true rfl, Nat.le_of_ble_eq_true rfl⟩ dX1_sent_8 (fun E_ w_ ce_ q9_ H locs hq hP hD hS hce hcv hcl => ?_) (fun r_ w_ H locs hq hP hD hS => ?_)
  · obtain ⟨rfl, rfl⟩ := hq
    have hrun := moxl hrun
    cases hrun
    have hP := hP.sub (ws' := ((cH k ah aw adr aim ard asc ath awl alo atr sh) ++ (cW k aw sw))) [0, 1, 2, 3, 4, 5, 6, 7, 8, 9] rfl
    have hD := hD.sub (ws' := ((cH k ah aw adr aim ard asc ath awl alo atr sh) ++ (cW k aw sw))) [0, 1, 2, 3, 4, 5, 6, 7, 8, 9] (by decide) rfl
    exact zout hnoh hlocks hce hcv hcl hP hD hS ⟨rfl, rfl⟩ (Nat.le_of_ble_eq_true rfl) (Nat.le_of_ble_eq_true rfl)
  obtain ⟨rfl, rfl, rfl⟩ := hq
  have hrun := moxr hrun
  have hP := hP.sub (ws' := ((cH k ah aw adr aim ard asc ath awl alo atr sh) ++ (cW k aw sw))) [0, 1, 2, 3, 4, 5, 6, 7, 8, 9] rfl
  have hD := hD.sub (ws' := ((cH k ah aw adr aim ard asc ath awl alo atr sh) ++ (cW k aw sw))) [0, 1, 2, 3, 4, 5, 6, 7, 8, 9] (by decide) rfl
  refine lv_aload_n hx hb dX1_sent_11 rfl (lv_at hl 0 rfl) ?_
  refine va_get (ci := 1) (v := .ref (aw 0)) (C := RX1) (T := TX1) (N := 10) hx hb hts in_X1 hown hK hP 0 rfl rfl 0 (by decide) (hts _ q370) (fun _ h9 => h9) rfl dX1_sent_12 ?_
  refine lv_aload_n hx hb dX1_sent_15 rfl (lv_at hl 0 rfl) ?_
  refine va_get (ci := 1) (v := .ref (aw 0)) (C := RX1) (T := TX1) (N := 10) hx hb hts in_X1 hown hK hP 0 rfl rfl 0 (by decide) (hts _ q370) (fun _ h9 => h9) rfl dX1_sent_16 ?_
  refine va_getN (ci := 2) (v := .int (wd_bath sw)) (C := RX2) (T := TX2) (N := 21) hx hb hts in_X2 hown hK hP 1 rfl rfl 3 (by decide) (va_Nw.use rfl (hN _ (zN_of q171 rfl))) (fun _ h9 => h9) rfl dX1_sent_19 ?_
  obtain ⟨r_7, hc_6, hrun⟩ := mob_s rfl hrun
  refine cRV (As := [.int (wd_bath sw)]) (ci := 2) ⟨hx, hb, hml, hown, hts⟩ hOK hz hS (hP.sub (ws' := (cW k aw sw)) [1, 2, 3, 4, 5, 6, 7, 8, 9] rfl) (mtX2_watchers l D k aw Z hOK _ _ _ hc_6) (kX2_watchers hts q567 rfl rfl ⟨Nat.le_of_ble_eq_true rfl, Nat.le_of_ble_eq_true rfl⟩) 0 rfl rfl rfl hl.1 rfl (lv_room (Nat.le_of_ble_eq_true rfl)) ⟨Nat.le_of_ble_eq_true rfl, Nat.le_of_ble_eq_true rfl⟩ dX1_sent_22 ?_
  refine lv_istore_n (lv' := [(2, .int r_7), (0, .ref (ah 0)), (1, .int p1)]) hx hb dX1_sent_25 rfl hl (by decide) rfl (fun ls hl => ?_)
  refine lv_aload_n hx hb dX1_sent_26 rfl (lv_at hl 1 rfl) ?_
  refine va_get (ci := 1) (v := .ref (aw 0)) (C := RX1) (T := TX1) (N := 10) hx hb hts in_X1 hown hK hP 0 rfl rfl 0 (by decide) (hts _ q370) (fun _ h9 => h9) rfl dX1_sent_27 ?_
  obtain ⟨r_9, hc_8, hrun⟩ := mob_s rfl hrun
  refine cRV (As := []) (ci := 2) ⟨hx, hb, hml, hown, hts⟩ hOK hz hS (hP.sub (ws' := (cW k aw sw)) [1, 2, 3, 4, 5, 6, 7, 8, 9] rfl) (mtX2_hereOnes l D k aw Z hOK _ _ hc_8) (kX2_hereOnes hts q643 rfl rfl ⟨Nat.le_of_ble_eq_true rfl, Nat.le_of_ble_eq_true rfl⟩) 0 rfl rfl rfl hl.1 rfl (lv_room (Nat.le_of_ble_eq_true rfl)) ⟨Nat.le_of_ble_eq_true rfl, Nat.le_of_ble_eq_true rfl⟩ dX1_sent_30 ?_
  refine lv_istore_n (lv' := [(3, .int r_9), (2, .int r_7), (0, .ref (ah 0)), (1, .int p1)]) hx hb dX1_sent_33 rfl hl (by decide) rfl (fun ls hl => ?_)
  refine lv_iconst (v := (-1 : Int32)) hx hb dX1_sent_34 (by decide) ?_
  refine lv_istore (lv' := [(4, .int (-1 : Int32)), (3, .int r_9), (2, .int r_7), (0, .ref (ah 0)), (1, .int p1)]) hx hb dX1_sent_35 hl (by decide) rfl (fun ls hl => ?_)
  refine lv_iconst (v := (0 : Int32)) hx hb dX1_sent_37 (by decide) ?_
  refine lv_istore (lv' := [(5, .int (0 : Int32)), (4, .int (-1 : Int32)), (3, .int r_9), (2, .int r_7), (0, .ref (ah 0)), (1, .int p1)]) hx hb dX1_sent_38 hl (by decide) rfl (fun ls hl => ?_)
  have hL_10 : ∀ n : Nat, ∀ (x4_11 : Int32) (x5_12 : Int32), ∀ (H : Heap) (locs : List Loc), va_P D zCl ((cH k ah aw adr aim ard asc ath awl alo atr sh) ++ (cW k aw sw)) H → va_D A ((cH k ah aw adr aim ard asc ath awl alo atr sh) ++ (cW k aw sw)) → va_S A s.heap H locs → ∀ ls : Array Slot, lv_has ls 6 [(0, .ref (ah 0)), (1, .int p1), (2, .int r_7), (3, .int r_9), (4, .int x4_11), (5, .int x5_12)] → fX1_sent_L40 r_9 sh sw r_7 p1 n x4_11 x5_12 = some o → W p l e rX1_sent s m args below meth c H locs 1 6 (vx_MQ below (QWr (fun r' w' => ∃ (r : Int32), o = .inr r ∧ r' = (some (.int r)) ∧ w' = ((cH k ah aw adr aim ard asc ath awl alo atr sh) ++ (cW k aw sw))) D zCl A) (QXr (fun E' w' => o = .inl E' ∧ w' = ((cH k ah aw adr aim ard asc ath awl alo atr sh) ++ (cW k aw sw))) D zCl A) args s 1 6 A) (F0 m 40 ls []) := by
    intro n
    induction n with
    | zero =>
      intro x4_11 x5_12 H locs hP hD hS ls hl hrun
      exact nomatch hrun
    | succ n ih =>
      intro x4_11 x5_12 H locs hP hD hS ls hl hrun
      rw [fX1_sent_L40.eq_2] at hrun
      refine lv_iload hx hb dX1_sent_40 (lv_at hl 5 rfl) ?_
      refine lv_iload_n hx hb dX1_sent_42 rfl (lv_at hl 3 rfl) ?_
      refine lv_icmp_gt (tgt := 98) hx hb dX1_sent_43 (by decide) (fun c_13 => ?_) (fun c_13 => ?_)
      · have hrun := mif_p c_13 hrun
        refine lv_iload hx hb dX1_sent_98 (lv_at hl 4 rfl) ?_
        cases hrun
        refine W.widen (k := 1) (n := 6) (Nat.le_of_ble_eq_true rfl) (Nat.le_of_ble_eq_true rfl) ?_
        exact vx_ret (retW_i hx hb hr hlocks hP hD hS ⟨_, rfl, rfl, rfl⟩ dX1_sent_100)
      have hrun := mif_n c_13 hrun
      refine lv_iload hx hb dX1_sent_46 (lv_at hl 5 rfl) ?_
      refine lv_iload_n hx hb dX1_sent_48 rfl (lv_at hl 3 rfl) ?_
      refine lv_iconst (v := (-1 : Int32)) hx hb dX1_sent_49 (by decide) ?_
      refine lv_ixor hx hb dX1_sent_50 ?_
      refine lv_iand hx hb dX1_sent_51 ?_
      refine lv_if_ne (tgt := 92) hx hb dX1_sent_52 (by decide) (fun c_14 => ?_) (fun c_14 => ?_)
      · have hrun := mif_n c_14 hrun
        refine lv_iinc (v := (x5_12 + (1 : Int32))) (lv' := [(5, .int (x5_12 + (1 : Int32))), (0, .ref (ah 0)), (1, .int p1), (2, .int r_7), (3, .int r_9), (4, .int x4_11)]) hx hb dX1_sent_92 hl (k := 5) rfl rfl (by decide) rfl (fun ls hl => ?_)
        refine lv_goto (tgt := 40) hx hb dX1_sent_95 (by decide) ?_
        exact ih x4_11 (x5_12 + (1 : Int32)) _ _ hP hD hS ls (lv_sub hl [1, 2, 3, 4, 5, 0] rfl) hrun
      have hrun := mif_p c_14 hrun
      refine lv_aload_n hx hb dX1_sent_55 rfl (lv_at hl 0 rfl) ?_
      refine lv_iload_n hx hb dX1_sent_56 rfl (lv_at hl 2 rfl) ?_
      refine lv_iload hx hb dX1_sent_57 (lv_at hl 5 rfl) ?_
      refine lv_iconst (v := (-1 : Int32)) hx hb dX1_sent_59 (by decide) ?_
      refine lv_ixor hx hb dX1_sent_60 ?_
      refine lv_iand hx hb dX1_sent_61 ?_
      obtain ⟨r_16, hc_15, hrun⟩ := mob_s rfl hrun
      refine cRV (As := [.int (r_7 &&& (x5_12 ^^^ (-1 : Int32)))]) (ci := 1) ⟨hx, hb, hml, hown, hts⟩ hOK hz hS hP (mtX1_oddsOf l D k ah aw adr aim ard asc ath awl alo atr Z hOK _ _ _ _ hc_15) (kX1_oddsOf hts q582 rfl rfl ⟨Nat.le_of_ble_eq_true rfl, Nat.le_of_ble_eq_true rfl⟩) 0 rfl rfl rfl hl.1 rfl (lv_room (Nat.le_of_ble_eq_true rfl)) ⟨Nat.le_of_ble_eq_true rfl, Nat.le_of_ble_eq_true rfl⟩ dX1_sent_62 ?_
      refine lv_iload_n hx hb dX1_sent_65 rfl (lv_at hl 1 rfl) ?_
      refine lv_icmp_gt (tgt := 92) hx hb dX1_sent_66 (by decide) (fun c_17 => ?_) (fun c_17 => ?_)
      · have hrun := mif_p c_17 hrun
        refine lv_iinc (v := (x5_12 + (1 : Int32))) (lv' := [(5, .int (x5_12 + (1 : Int32))), (0, .ref (ah 0)), (1, .int p1), (2, .int r_7), (3, .int r_9), (4, .int x4_11)]) hx hb dX1_sent_92 hl (k := 5) rfl rfl (by decide) rfl (fun ls hl => ?_)
        refine lv_goto (tgt := 40) hx hb dX1_sent_95 (by decide) ?_
        exact ih x4_11 (x5_12 + (1 : Int32)) _ _ hP hD hS ls (lv_sub hl [1, 2, 3, 4, 5, 0] rfl) hrun
      have hrun := mif_n c_17 hrun
      refine lv_iload hx hb dX1_sent_69 (lv_at hl 4 rfl) ?_
      refine lv_iconst (v := (-1 : Int32)) hx hb dX1_sent_71 (by decide) ?_
      refine lv_icmp_eq (tgt := 88) hx hb dX1_sent_72 (by decide) (fun c_18 => ?_) (fun c_18 => ?_)
      · have hrun := mif_p c_18 hrun
        refine lv_iload hx hb dX1_sent_88 (lv_at hl 5 rfl) ?_
        refine lv_istore (lv' := [(4, .int x5_12), (0, .ref (ah 0)), (1, .int p1), (2, .int r_7), (3, .int r_9), (5, .int x5_12)]) hx hb dX1_sent_90 hl (by decide) rfl (fun ls hl => ?_)
        refine lv_iinc (v := (x5_12 + (1 : Int32))) (lv' := [(5, .int (x5_12 + (1 : Int32))), (4, .int x5_12), (0, .ref (ah 0)), (1, .int p1), (2, .int r_7), (3, .int r_9)]) hx hb dX1_sent_92 hl (k := 5) rfl rfl (by decide) rfl (fun ls hl => ?_)
        refine lv_goto (tgt := 40) hx hb dX1_sent_95 (by decide) ?_
        exact ih x5_12 (x5_12 + (1 : Int32)) _ _ hP hD hS ls (lv_sub hl [2, 3, 4, 5, 1, 0] rfl) hrun
      have hrun := mif_n c_18 hrun
      refine lv_iload hx hb dX1_sent_75 (lv_at hl 5 rfl) ?_
      obtain ⟨r_20, hc_19, hrun⟩ := mob_s rfl hrun
      refine cRS (ws := []) (As := [.int x5_12]) ⟨hx, hb, hml, hown, hts⟩ hOK hz hS zP0 (mtJ16_bitCount l D Z hOK _ _ hc_19) (kJ16_bitCount hts q456 rfl rfl ⟨Nat.le_of_ble_eq_true rfl, Nat.le_of_ble_eq_true rfl⟩) rfl hl.1 rfl (lv_room (Nat.le_of_ble_eq_true rfl)) ⟨Nat.le_of_ble_eq_true rfl, Nat.le_of_ble_eq_true rfl⟩ dX1_sent_77 ?_
      refine lv_iload hx hb dX1_sent_80 (lv_at hl 4 rfl) ?_
      obtain ⟨r_22, hc_21, hrun⟩ := mob_s rfl hrun
      refine cRS (ws := []) (As := [.int x4_11]) ⟨hx, hb, hml, hown, hts⟩ hOK hz hS zP0 (mtJ16_bitCount l D Z hOK _ _ hc_21) (kJ16_bitCount hts q456 rfl rfl ⟨Nat.le_of_ble_eq_true rfl, Nat.le_of_ble_eq_true rfl⟩) rfl hl.1 rfl (lv_room (Nat.le_of_ble_eq_true rfl)) ⟨Nat.le_of_ble_eq_true rfl, Nat.le_of_ble_eq_true rfl⟩ dX1_sent_82 ?_
      refine lv_icmp_ge (tgt := 92) hx hb dX1_sent_85 (by decide) (fun c_23 => ?_) (fun c_23 => ?_)
      · have hrun := mif_p c_23 hrun
        refine lv_iinc (v := (x5_12 + (1 : Int32))) (lv' := [(5, .int (x5_12 + (1 : Int32))), (0, .ref (ah 0)), (1, .int p1), (2, .int r_7), (3, .int r_9), (4, .int x4_11)]) hx hb dX1_sent_92 hl (k := 5) rfl rfl (by decide) rfl (fun ls hl => ?_)
        refine lv_goto (tgt := 40) hx hb dX1_sent_95 (by decide) ?_
        exact ih x4_11 (x5_12 + (1 : Int32)) _ _ hP hD hS ls (lv_sub hl [1, 2, 3, 4, 5, 0] rfl) hrun
      have hrun := mif_n c_23 hrun
      refine lv_iload hx hb dX1_sent_88 (lv_at hl 5 rfl) ?_
      refine lv_istore (lv' := [(4, .int x5_12), (0, .ref (ah 0)), (1, .int p1), (2, .int r_7), (3, .int r_9), (5, .int x5_12)]) hx hb dX1_sent_90 hl (by decide) rfl (fun ls hl => ?_)
      refine lv_iinc (v := (x5_12 + (1 : Int32))) (lv' := [(5, .int (x5_12 + (1 : Int32))), (4, .int x5_12), (0, .ref (ah 0)), (1, .int p1), (2, .int r_7), (3, .int r_9)]) hx hb dX1_sent_92 hl (k := 5) rfl rfl (by decide) rfl (fun ls hl => ?_)
      refine lv_goto (tgt := 40) hx hb dX1_sent_95 (by decide) ?_
      exact ih x5_12 (x5_12 + (1 : Int32)) _ _ hP hD hS ls (lv_sub hl [2, 3, 4, 5, 1, 0] rfl) hrun
  exact hL_10 mFU (-1 : Int32) (0 : Int32) _ _ hP hD hS ls (lv_sub hl [4, 5, 3, 2, 1, 0] rfl) hrun
def rX1_rests : Room := { frames := 8, cells := 1, slots := 6, locals := 131 }
noncomputable def fX1_rests_L38 (K_14 : Int32 → Option ((String) ⊕ (Int32))) (sh : Kp) (sw : Wd) (r_7 : Bool) (x4_10 : Int32) (p1 : Int32) : Nat → Int32 → Int32 → Option ((String) ⊕ (Int32))
  | 0, _, _ => none
  | n + 1, x3_16, x5_17 =>
    if (2 : Int32) ≤ x5_17 then
      K_14 x3_16
    else
      mob (fX1_hostHas sh sw r_7 x4_10 x5_17) fun r_20 =>
      mob (fX1_hostHas sh sw r_7 ((1 : Int32) - x4_10) x5_17) fun r_22 =>
      if r_20 < r_22 then
        fX1_rests_L38 K_14 sh sw r_7 x4_10 p1 n x3_16 (x5_17 + (1 : Int32))
      else
        mob (fX1_guestHas sh sw p1 r_7 x4_10 x5_17) fun r_25 =>
        mob (fX1_guestHas sh sw p1 r_7 x4_10 ((1 : Int32) - x5_17)) fun r_27 =>
        if r_25 < r_27 then
          fX1_rests_L38 K_14 sh sw r_7 x4_10 p1 n x3_16 (x5_17 + (1 : Int32))
        else
          mlt (x3_16 ||| ((1 : Int32) <<< ((((2 : Int32) * x4_10) + x5_17) &&& (31 : Int32)))) fun x3_29 =>
          fX1_rests_L38 K_14 sh sw r_7 x4_10 p1 n x3_29 (x5_17 + (1 : Int32))
noncomputable def fX1_rests_L29 (sh : Kp) (sw : Wd) (r_7 : Bool) (p1 : Int32) : Nat → Int32 → Int32 → Option ((String) ⊕ (Int32))
  | 0, _, _ => none
  | n + 1, x3_9, x4_10 =>
    if (2 : Int32) ≤ x4_10 then
      some (.inr x3_9)
    else
      mjn (fun (x3_13 : Int32) =>
      fX1_rests_L29 sh sw r_7 p1 n x3_13 (x4_10 + (1 : Int32))) fun K_14 =>
      fX1_rests_L38 K_14 sh sw r_7 x4_10 p1 mFU x3_9 (0 : Int32)
noncomputable def fX1_rests (sh : Kp) (sw : Wd) (p1 : Int32) : Option ((String) ⊕ (Int32)) :=
  mox (fX1_guestAt sh sw p1) (fun E_3 => some (.inl E_3)) fun _ =>
  mob (fX2_watchers sw (wd_bath sw)) fun r_5 =>
  mob (fX1_has r_5 p1) fun r_7 =>
  fX1_rests_L29 sh sw r_7 p1 mFU (0 : Int32) (0 : Int32)
theorem kX1_rests {R : Room} {s : State} {args : Array Value} {own : String} {idx mc ms : Nat} {rm : Room} (hts : ∀ w ∈ lw_all, w.before args s = true) (hl : Cond.methodLink own idx yX1_rests ∈ lw_all) (hrc : rm.cells = mc) (hrs : rm.slots = ms) (hR : rm.frames + 1 ≤ R.frames ∧ 8 + (6 + 11) + rm.locals ≤ R.locals) : CallW R s args own RX1 idx yX1_rests cX1_rests 6 (some .int) (ws_ yX1_rests cX1_rests 6 (some .int)) rm mc ms 1 :=
  cwV 1 hts (lw_V hl q1764 q1765 q107 q1766) rfl hrc hrs (by decide +kernel) hR
set_option maxHeartbeats 4000000 in
set_option maxRecDepth 100000 in
theorem mtX1_rests (l : Launch) (D : va_G) (k : Nat → ClassId) (ah : Nat → Nat) (aw : Nat → Nat) (adr : Nat → Nat) (aim : Nat → Nat) (ard : Nat → Nat) (asc : Nat → Nat) (ath : Nat → Nat) (awl : Nat → Nat) (alo : Nat → Nat) (atr : Nat → Nat) (Z : zZ) (hOK : zOK D zCl (zTys k) Z) (hlt : l.stackTraces = false) (hTh : zTh Z) (sh : Kp) (sw : Wd) (p1 : Int32) (o : (String) ⊕ (Int32)) (hrun : fX1_rests sh sw p1 = some o) :
    CtX l yX1_rests cX1_rests 6 (some .int) rX1_rests Z D zCl ((cH k ah aw adr aim ard asc ath awl alo atr sh) ++ (cW k aw sw)) [.ref (ah 0), .int p1] (fun r' w' => ∃ (r : Int32), o = .inr r ∧ r' = (some (.int r)) ∧ w' = ((cH k ah aw adr aim ard asc ath awl alo atr sh) ++ (cW k aw sw))) (fun E' w' => o = .inl E' ∧ w' = ((cH k ah aw adr aim ard asc ath awl alo atr sh) ++ (cW k aw sw))) 1 6 := by
  refine CtX.of (by decide) (Nat.le_of_ble_eq_true rfl) ?_
  intro p e s m args below meth c A hE hnoh hA hP hD hS hz ls hl
  obtain ⟨hx, hb, hr, hml, hown, hts, hlocks, hname⟩ := hE
  have hown : s.vm.findClass RX1 = some m.cls := hown
  have hK := hOK.1 _ _ _ hz
  have hN := hOK.2.1 _ _ _ hz
  have hl : lv_has ls 6 [(0, .ref (ah 0)), (1, .int p1)] := hl
  unfold fX1_rests at hrun
  refine lv_aload_n hx hb dX1_rests_0 rfl (lv_at hl 0 rfl) ?_
  refine lv_iload_n hx hb dX1_rests_1 rfl (lv_at hl 1 rfl) ?_
  obtain ⟨o_2, hc_1, hrun⟩ := mox_s rfl hrun
  have hP := hP.sub (ws' := ([] ++ (((cH k ah aw adr aim ard asc ath awl alo atr sh) ++ (cW k aw sw)) ++ []))) [0, 1, 2, 3, 4, 5, 6, 7, 8, 9] rfl
  have hD := hD.sub (ws' := ([] ++ (((cH k ah aw adr aim ard asc ath awl alo atr sh) ++ (cW k aw sw)) ++ []))) [0, 1, 2, 3, 4, 5, 6, 7, 8, 9] (by decide) rfl
  refine cXV [] ((cH k ah aw adr aim ard asc ath awl alo atr sh) ++ (cW k aw sw)) [] (As := [.int p1]) (ci := 1) ⟨hx, hb, hml, hown, hts⟩ hOK hz hS hA hP hD (mtX1_guestAt l D k ah aw adr aim ard asc ath awl alo atr Z hOK hlt hTh _ _ _ o_2 hc_1) (kX1_guestAt hts q1552 rfl rfl ⟨Nat.le_of_ble_eq_true rfl, Nat.le_of_ble_eq_true rfl⟩) 0 rfl rfl rfl hl.1 rfl (lv_room (Nat.le_of_ble_eq_true rfl)) ⟨Nat.le_of_ble_eq_true rfl, Nat.le_of_ble_eq_true rfl⟩ dX1_rests_2 (fun E_ w_ ce_ q9_ H locs hq hP hD hS hce hcv hcl => ?_) (fun r_ w_ H locs hq hP hD hS => ?_)
  · obtain ⟨rfl, rfl⟩ := hq
    have hrun := moxl hrun
    cases hrun
    have hP := hP.sub (ws' := ((cH k ah aw adr aim ard asc ath awl alo atr sh) ++ (cW k aw sw))) [0, 1, 2, 3, 4, 5, 6, 7, 8, 9] rfl
    have hD := hD.sub (ws' := ((cH k ah aw adr aim ard asc ath awl alo atr sh) ++ (cW k aw sw))) [0, 1, 2, 3, 4, 5, 6, 7, 8, 9] (by decide) rfl
    exact zout hnoh hlocks hce hcv hcl hP hD hS ⟨rfl, rfl⟩ (Nat.le_of_ble_eq_true rfl) (Nat.le_of_ble_eq_true rfl)
  obtain ⟨rfl, rfl, rfl⟩ := hq
  have hrun := moxr hrun
  have hP := hP.sub (ws' := ((cH k ah aw adr aim ard asc ath awl alo atr sh) ++ (cW k aw sw))) [0, 1, 2, 3, 4, 5, 6, 7, 8, 9] rfl
  have hD := hD.sub (ws' := ((cH k ah aw adr aim ard asc ath awl alo atr sh) ++ (cW k aw sw))) [0, 1, 2, 3, 4, 5, 6, 7, 8, 9] (by decide) rfl
  refine lv_aload_n hx hb dX1_rests_5 rfl (lv_at hl 0 rfl) ?_
  refine va_get (ci := 1) (v := .ref (aw 0)) (C := RX1) (T := TX1) (N := 10) hx hb hts in_X1 hown hK hP 0 rfl rfl 0 (by decide) (hts _ q370) (fun _ h9 => h9) rfl dX1_rests_6 ?_
  refine lv_aload_n hx hb dX1_rests_9 rfl (lv_at hl 0 rfl) ?_
  refine va_get (ci := 1) (v := .ref (aw 0)) (C := RX1) (T := TX1) (N := 10) hx hb hts in_X1 hown hK hP 0 rfl rfl 0 (by decide) (hts _ q370) (fun _ h9 => h9) rfl dX1_rests_10 ?_
  refine va_getN (ci := 2) (v := .int (wd_bath sw)) (C := RX2) (T := TX2) (N := 21) hx hb hts in_X2 hown hK hP 1 rfl rfl 3 (by decide) (va_Nw.use rfl (hN _ (zN_of q171 rfl))) (fun _ h9 => h9) rfl dX1_rests_13 ?_
  obtain ⟨r_5, hc_4, hrun⟩ := mob_s rfl hrun
  refine cRV (As := [.int (wd_bath sw)]) (ci := 2) ⟨hx, hb, hml, hown, hts⟩ hOK hz hS (hP.sub (ws' := (cW k aw sw)) [1, 2, 3, 4, 5, 6, 7, 8, 9] rfl) (mtX2_watchers l D k aw Z hOK _ _ _ hc_4) (kX2_watchers hts q567 rfl rfl ⟨Nat.le_of_ble_eq_true rfl, Nat.le_of_ble_eq_true rfl⟩) 0 rfl rfl rfl hl.1 rfl (lv_room (Nat.le_of_ble_eq_true rfl)) ⟨Nat.le_of_ble_eq_true rfl, Nat.le_of_ble_eq_true rfl⟩ dX1_rests_16 ?_
  refine lv_iload_n hx hb dX1_rests_19 rfl (lv_at hl 1 rfl) ?_
  obtain ⟨r_7, hc_6, hrun⟩ := mob_s rfl hrun
  refine cRS (ws := []) (As := [.int r_5, .int p1]) ⟨hx, hb, hml, hown, hts⟩ hOK hz hS zP0 (mtX1_has l D Z hOK _ _ _ hc_6) (kX1_has hts q586 rfl rfl ⟨Nat.le_of_ble_eq_true rfl, Nat.le_of_ble_eq_true rfl⟩) rfl hl.1 rfl (lv_room (Nat.le_of_ble_eq_true rfl)) ⟨Nat.le_of_ble_eq_true rfl, Nat.le_of_ble_eq_true rfl⟩ dX1_rests_20 ?_
  refine lv_istore_n (lv' := [(2, .int (bz r_7)), (0, .ref (ah 0)), (1, .int p1)]) hx hb dX1_rests_23 rfl hl (by decide) rfl (fun ls hl => ?_)
  refine lv_iconst (v := (0 : Int32)) hx hb dX1_rests_24 (by decide) ?_
  refine lv_istore_n (lv' := [(3, .int (0 : Int32)), (2, .int (bz r_7)), (0, .ref (ah 0)), (1, .int p1)]) hx hb dX1_rests_25 rfl hl (by decide) rfl (fun ls hl => ?_)
  refine lv_iconst (v := (0 : Int32)) hx hb dX1_rests_26 (by decide) ?_
  refine lv_istore (lv' := [(4, .int (0 : Int32)), (3, .int (0 : Int32)), (2, .int (bz r_7)), (0, .ref (ah 0)), (1, .int p1)]) hx hb dX1_rests_27 hl (by decide) rfl (fun ls hl => ?_)
  have hL_8 : ∀ n : Nat, ∀ (x3_9 : Int32) (x4_10 : Int32), ∀ (H : Heap) (locs : List Loc), va_P D zCl ((cH k ah aw adr aim ard asc ath awl alo atr sh) ++ (cW k aw sw)) H → va_D A ((cH k ah aw adr aim ard asc ath awl alo atr sh) ++ (cW k aw sw)) → va_S A s.heap H locs → ∀ ls : Array Slot, lv_has ls 6 [(0, .ref (ah 0)), (1, .int p1), (2, .int (bz r_7)), (3, .int x3_9), (4, .int x4_10)] → fX1_rests_L29 sh sw r_7 p1 n x3_9 x4_10 = some o → W p l e rX1_rests s m args below meth c H locs 1 6 (vx_MQ below (QWr (fun r' w' => ∃ (r : Int32), o = .inr r ∧ r' = (some (.int r)) ∧ w' = ((cH k ah aw adr aim ard asc ath awl alo atr sh) ++ (cW k aw sw))) D zCl A) (QXr (fun E' w' => o = .inl E' ∧ w' = ((cH k ah aw adr aim ard asc ath awl alo atr sh) ++ (cW k aw sw))) D zCl A) args s 1 6 A) (F0 m 29 ls []) := by
    intro n
    induction n with
    | zero =>
      intro x3_9 x4_10 H locs hP hD hS ls hl hrun
      exact nomatch hrun
    | succ n ih =>
      intro x3_9 x4_10 H locs hP hD hS ls hl hrun
      rw [fX1_rests_L29.eq_2] at hrun
      refine lv_iload hx hb dX1_rests_29 (lv_at hl 4 rfl) ?_
      refine lv_iconst (v := (2 : Int32)) hx hb dX1_rests_31 (by decide) ?_
      refine lv_icmp_ge (tgt := 116) hx hb dX1_rests_32 (by decide) (fun c_11 => ?_) (fun c_11 => ?_)
      · have hrun := mif_p c_11 hrun
        refine lv_iload_n hx hb dX1_rests_116 rfl (lv_at hl 3 rfl) ?_
        cases hrun
        refine W.widen (k := 1) (n := 6) (Nat.le_of_ble_eq_true rfl) (Nat.le_of_ble_eq_true rfl) ?_
        exact vx_ret (retW_i hx hb hr hlocks hP hD hS ⟨_, rfl, rfl, rfl⟩ dX1_rests_117)
      have hrun := mif_n c_11 hrun
      refine lv_iconst (v := (0 : Int32)) hx hb dX1_rests_35 (by decide) ?_
      refine lv_istore (lv' := [(5, .int (0 : Int32)), (0, .ref (ah 0)), (1, .int p1), (2, .int (bz r_7)), (3, .int x3_9), (4, .int x4_10)]) hx hb dX1_rests_36 hl (by decide) rfl (fun ls hl => ?_)
      obtain ⟨K_14, hK_14, hrun⟩ := mjn_s hrun
      have hj_12 : ∀ (x3_13 : Int32), ∀ (H : Heap) (locs : List Loc), va_P D zCl ((cH k ah aw adr aim ard asc ath awl alo atr sh) ++ (cW k aw sw)) H → va_D A ((cH k ah aw adr aim ard asc ath awl alo atr sh) ++ (cW k aw sw)) → va_S A s.heap H locs → ∀ ls : Array Slot, lv_has ls 6 [(0, .ref (ah 0)), (1, .int p1), (2, .int (bz r_7)), (3, .int x3_13), (4, .int x4_10)] → K_14 x3_13 = some o → W p l e rX1_rests s m args below meth c H locs 1 6 (vx_MQ below (QWr (fun r' w' => ∃ (r : Int32), o = .inr r ∧ r' = (some (.int r)) ∧ w' = ((cH k ah aw adr aim ard asc ath awl alo atr sh) ++ (cW k aw sw))) D zCl A) (QXr (fun E' w' => o = .inl E' ∧ w' = ((cH k ah aw adr aim ard asc ath awl alo atr sh) ++ (cW k aw sw))) D zCl A) args s 1 6 A) (F0 m 110 ls []) := by
        intro x3_13 H locs hP hD hS ls hl hrun
        rw [hK_14] at hrun
        refine lv_iinc (v := (x4_10 + (1 : Int32))) (lv' := [(4, .int (x4_10 + (1 : Int32))), (0, .ref (ah 0)), (1, .int p1), (2, .int (bz r_7)), (3, .int x3_13)]) hx hb dX1_rests_110 hl (k := 4) rfl rfl (by decide) rfl (fun ls hl => ?_)
        refine lv_goto (tgt := 29) hx hb dX1_rests_113 (by decide) ?_
        exact ih x3_13 (x4_10 + (1 : Int32)) _ _ hP hD hS ls (lv_sub hl [1, 2, 3, 4, 0] rfl) hrun
      have hL_15 : ∀ n : Nat, ∀ (x3_16 : Int32) (x5_17 : Int32), ∀ (H : Heap) (locs : List Loc), va_P D zCl ((cH k ah aw adr aim ard asc ath awl alo atr sh) ++ (cW k aw sw)) H → va_D A ((cH k ah aw adr aim ard asc ath awl alo atr sh) ++ (cW k aw sw)) → va_S A s.heap H locs → ∀ ls : Array Slot, lv_has ls 6 [(0, .ref (ah 0)), (1, .int p1), (2, .int (bz r_7)), (3, .int x3_16), (4, .int x4_10), (5, .int x5_17)] → fX1_rests_L38 K_14 sh sw r_7 x4_10 p1 n x3_16 x5_17 = some o → W p l e rX1_rests s m args below meth c H locs 1 6 (vx_MQ below (QWr (fun r' w' => ∃ (r : Int32), o = .inr r ∧ r' = (some (.int r)) ∧ w' = ((cH k ah aw adr aim ard asc ath awl alo atr sh) ++ (cW k aw sw))) D zCl A) (QXr (fun E' w' => o = .inl E' ∧ w' = ((cH k ah aw adr aim ard asc ath awl alo atr sh) ++ (cW k aw sw))) D zCl A) args s 1 6 A) (F0 m 38 ls []) := by
        intro n
        induction n with
        | zero =>
          intro x3_16 x5_17 H locs hP hD hS ls hl hrun
          exact nomatch hrun
        | succ n ih =>
          intro x3_16 x5_17 H locs hP hD hS ls hl hrun
          rw [fX1_rests_L38.eq_2] at hrun
          refine lv_iload hx hb dX1_rests_38 (lv_at hl 5 rfl) ?_
          refine lv_iconst (v := (2 : Int32)) hx hb dX1_rests_40 (by decide) ?_
          refine lv_icmp_ge (tgt := 110) hx hb dX1_rests_41 (by decide) (fun c_18 => ?_) (fun c_18 => ?_)
          · have hrun := mif_p c_18 hrun
            exact hj_12 x3_16 _ _ hP hD hS ls (lv_sub hl [0, 1, 2, 3, 4] rfl) hrun
          have hrun := mif_n c_18 hrun
          refine lv_aload_n hx hb dX1_rests_44 rfl (lv_at hl 0 rfl) ?_
          refine lv_iload_n hx hb dX1_rests_45 rfl (lv_at hl 2 rfl) ?_
          refine lv_iload hx hb dX1_rests_46 (lv_at hl 4 rfl) ?_
          refine lv_iload hx hb dX1_rests_48 (lv_at hl 5 rfl) ?_
          obtain ⟨r_20, hc_19, hrun⟩ := mob_s rfl hrun
          refine cRV (As := [.int (bz r_7), .int x4_10, .int x5_17]) (ci := 1) ⟨hx, hb, hml, hown, hts⟩ hOK hz hS hP (mtX1_hostHas l D k ah aw adr aim ard asc ath awl alo atr Z hOK _ _ _ _ _ _ hc_19) (kX1_hostHas hts q1767 rfl rfl ⟨Nat.le_of_ble_eq_true rfl, Nat.le_of_ble_eq_true rfl⟩) 0 rfl rfl rfl hl.1 rfl (lv_room (Nat.le_of_ble_eq_true rfl)) ⟨Nat.le_of_ble_eq_true rfl, Nat.le_of_ble_eq_true rfl⟩ dX1_rests_50 ?_
          refine lv_aload_n hx hb dX1_rests_53 rfl (lv_at hl 0 rfl) ?_
          refine lv_iload_n hx hb dX1_rests_54 rfl (lv_at hl 2 rfl) ?_
          refine lv_iconst (v := (1 : Int32)) hx hb dX1_rests_55 (by decide) ?_
          refine lv_iload hx hb dX1_rests_56 (lv_at hl 4 rfl) ?_
          refine lv_isub hx hb dX1_rests_58 ?_
          refine lv_iload hx hb dX1_rests_59 (lv_at hl 5 rfl) ?_
          obtain ⟨r_22, hc_21, hrun⟩ := mob_s rfl hrun
          refine cRV (As := [.int (bz r_7), .int ((1 : Int32) - x4_10), .int x5_17]) (ci := 1) ⟨hx, hb, hml, hown, hts⟩ hOK hz hS hP (mtX1_hostHas l D k ah aw adr aim ard asc ath awl alo atr Z hOK _ _ _ _ _ _ hc_21) (kX1_hostHas hts q1767 rfl rfl ⟨Nat.le_of_ble_eq_true rfl, Nat.le_of_ble_eq_true rfl⟩) 0 rfl rfl rfl hl.1 rfl (lv_room (Nat.le_of_ble_eq_true rfl)) ⟨Nat.le_of_ble_eq_true rfl, Nat.le_of_ble_eq_true rfl⟩ dX1_rests_61 ?_
          refine lv_icmp_lt (tgt := 104) hx hb dX1_rests_64 (by decide) (fun c_23 => ?_) (fun c_23 => ?_)
          · have hrun := mif_p c_23 hrun
            refine lv_iinc (v := (x5_17 + (1 : Int32))) (lv' := [(5, .int (x5_17 + (1 : Int32))), (0, .ref (ah 0)), (1, .int p1), (2, .int (bz r_7)), (3, .int x3_16), (4, .int x4_10)]) hx hb dX1_rests_104 hl (k := 5) rfl rfl (by decide) rfl (fun ls hl => ?_)
            refine lv_goto (tgt := 38) hx hb dX1_rests_107 (by decide) ?_
            exact ih x3_16 (x5_17 + (1 : Int32)) _ _ hP hD hS ls (lv_sub hl [1, 2, 3, 4, 5, 0] rfl) hrun
          have hrun := mif_n c_23 hrun
          refine lv_aload_n hx hb dX1_rests_67 rfl (lv_at hl 0 rfl) ?_
          refine lv_iload_n hx hb dX1_rests_68 rfl (lv_at hl 1 rfl) ?_
          refine lv_iload_n hx hb dX1_rests_69 rfl (lv_at hl 2 rfl) ?_
          refine lv_iload hx hb dX1_rests_70 (lv_at hl 4 rfl) ?_
          refine lv_iload hx hb dX1_rests_72 (lv_at hl 5 rfl) ?_
          obtain ⟨r_25, hc_24, hrun⟩ := mob_s rfl hrun
          refine cRV (As := [.int p1, .int (bz r_7), .int x4_10, .int x5_17]) (ci := 1) ⟨hx, hb, hml, hown, hts⟩ hOK hz hS hP (mtX1_guestHas l D k ah aw adr aim ard asc ath awl alo atr Z hOK _ _ _ _ _ _ _ hc_24) (kX1_guestHas hts q1771 rfl rfl ⟨Nat.le_of_ble_eq_true rfl, Nat.le_of_ble_eq_true rfl⟩) 0 rfl rfl rfl hl.1 rfl (lv_room (Nat.le_of_ble_eq_true rfl)) ⟨Nat.le_of_ble_eq_true rfl, Nat.le_of_ble_eq_true rfl⟩ dX1_rests_74 ?_
          refine lv_aload_n hx hb dX1_rests_77 rfl (lv_at hl 0 rfl) ?_
          refine lv_iload_n hx hb dX1_rests_78 rfl (lv_at hl 1 rfl) ?_
          refine lv_iload_n hx hb dX1_rests_79 rfl (lv_at hl 2 rfl) ?_
          refine lv_iload hx hb dX1_rests_80 (lv_at hl 4 rfl) ?_
          refine lv_iconst (v := (1 : Int32)) hx hb dX1_rests_82 (by decide) ?_
          refine lv_iload hx hb dX1_rests_83 (lv_at hl 5 rfl) ?_
          refine lv_isub hx hb dX1_rests_85 ?_
          obtain ⟨r_27, hc_26, hrun⟩ := mob_s rfl hrun
          refine cRV (As := [.int p1, .int (bz r_7), .int x4_10, .int ((1 : Int32) - x5_17)]) (ci := 1) ⟨hx, hb, hml, hown, hts⟩ hOK hz hS hP (mtX1_guestHas l D k ah aw adr aim ard asc ath awl alo atr Z hOK _ _ _ _ _ _ _ hc_26) (kX1_guestHas hts q1771 rfl rfl ⟨Nat.le_of_ble_eq_true rfl, Nat.le_of_ble_eq_true rfl⟩) 0 rfl rfl rfl hl.1 rfl (lv_room (Nat.le_of_ble_eq_true rfl)) ⟨Nat.le_of_ble_eq_true rfl, Nat.le_of_ble_eq_true rfl⟩ dX1_rests_86 ?_
          refine lv_icmp_lt (tgt := 104) hx hb dX1_rests_89 (by decide) (fun c_28 => ?_) (fun c_28 => ?_)
          · have hrun := mif_p c_28 hrun
            refine lv_iinc (v := (x5_17 + (1 : Int32))) (lv' := [(5, .int (x5_17 + (1 : Int32))), (0, .ref (ah 0)), (1, .int p1), (2, .int (bz r_7)), (3, .int x3_16), (4, .int x4_10)]) hx hb dX1_rests_104 hl (k := 5) rfl rfl (by decide) rfl (fun ls hl => ?_)
            refine lv_goto (tgt := 38) hx hb dX1_rests_107 (by decide) ?_
            exact ih x3_16 (x5_17 + (1 : Int32)) _ _ hP hD hS ls (lv_sub hl [1, 2, 3, 4, 5, 0] rfl) hrun
          have hrun := mif_n c_28 hrun
          refine lv_iload_n hx hb dX1_rests_92 rfl (lv_at hl 3 rfl) ?_
          refine lv_iconst (v := (1 : Int32)) hx hb dX1_rests_93 (by decide) ?_
          refine lv_iconst (v := (2 : Int32)) hx hb dX1_rests_94 (by decide) ?_
          refine lv_iload hx hb dX1_rests_95 (lv_at hl 4 rfl) ?_
          refine lv_imul hx hb dX1_rests_97 ?_
          refine lv_iload hx hb dX1_rests_98 (lv_at hl 5 rfl) ?_
          refine lv_iadd hx hb dX1_rests_100 ?_
          refine lv_ishl hx hb dX1_rests_101 ?_
          refine lv_ior hx hb dX1_rests_102 ?_
          refine lv_topi (fun x3_29 ex3_29 => ?_)
          have hrun := mlt_s hrun x3_29 ex3_29
          refine lv_istore_n (lv' := [(3, .int x3_29), (0, .ref (ah 0)), (1, .int p1), (2, .int (bz r_7)), (4, .int x4_10), (5, .int x5_17)]) hx hb dX1_rests_103 rfl hl (by decide) rfl (fun ls hl => ?_)
          refine lv_iinc (v := (x5_17 + (1 : Int32))) (lv' := [(5, .int (x5_17 + (1 : Int32))), (3, .int x3_29), (0, .ref (ah 0)), (1, .int p1), (2, .int (bz r_7)), (4, .int x4_10)]) hx hb dX1_rests_104 hl (k := 5) rfl rfl (by decide) rfl (fun ls hl => ?_)
          refine lv_goto (tgt := 38) hx hb dX1_rests_107 (by decide) ?_
          exact ih x3_29 (x5_17 + (1 : Int32)) _ _ hP hD hS ls (lv_sub hl [2, 3, 4, 1, 5, 0] rfl) hrun
      exact hL_15 mFU x3_9 (0 : Int32) _ _ hP hD hS ls (lv_sub hl [1, 2, 3, 4, 5, 0] rfl) hrun
  exact hL_8 mFU (0 : Int32) (0 : Int32) _ _ hP hD hS ls (lv_sub hl [3, 4, 2, 1, 0] rfl) hrun
