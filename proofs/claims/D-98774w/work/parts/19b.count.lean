/-! COUNT -/
section WSZ
variable {p : Program} {l : Launch} {e : Env} {R : Room} {s : State} {m : MethodId} {args : Array Value} {below : List Frame} {meth : Method} {c : Code} {H : Heap} {locs : List Loc} {cells slots : Nat} {Q : State → Prop}
variable {pc : Nat} {ls : Array Slot} {rest : List Value} {D : va_G} {k : Nat → ClassId} {Z : zZ} {A : Nat → Prop} {cc : ByteArray} {nL index : Nat} {own : String} {ws : va_W}
theorem zwlSize {e0 q : Nat} {us : List Wd} {w : va_W} (S : CallFix p m c cc nL s args lw_all own) (hOK : zOK D zCl (zTys k) Z) (hz : Z A s s.heap) (hS : va_S A s.heap H locs) (hP : va_P D zCl ws H) (hs : ∀ x ∈ w, x ∈ ws) (hw : wlP k e0 q us w) (hlk : Cond.methodLink own index yJ2_size ∈ lw_all) (hR : 1 ≤ R.frames ∧ 20 ≤ R.locals) (hl : ls.size = nL) (hW : 2 * (F0 m pc ls (.ref q :: rest)).monitorRoom + (rest.map fun v => v.category).sum ≤ 8) (hf : cells ≤ R.cells ∧ slots ≤ R.slots) (hdg : decode cc pc = .ok (.invokevirtual index, 3))
    (kk : W p l e R s m args below meth c H locs cells slots Q (F0 m (pc + 3) ls (.int (nI us.length) :: rest))) : W p l e R s m args below meth c H locs cells slots Q (F0 m pc ls (.ref q :: rest)) := by
  have hR2 : (rJ2_0).frames + 1 ≤ R.frames ∧ 8 + (1 + 11) + (rJ2_0).locals ≤ R.locals := hR
  have key : ∀ (e1 : Nat) (mc : Int32), lsO q e1 mc us.length ∈ w → W p l e R s m args below meth c H locs cells slots Q (F0 m pc ls (.ref q :: rest)) := by
    intro e1 mc h
    obtain ⟨j, hj⟩ := List.getElem?_of_mem (hs _ h)
    have hP1 : va_P D zCl [lsO q e1 mc us.length] H := hP.sub [j] (by simp [hj])
    exact cRV (As := []) (ci := 15) (rest := rest) S hOK hz hS hP1 (mtJ2_size l D k Z hOK q e1 mc us.length) (kJ2_size (S.2.2.2.2) hlk rfl rfl hR2) 0 rfl rfl rfl hl rfl hW hf hdg kk
  obtain ⟨mc, ⟨h1, h2⟩ | ⟨e1, cap, L, h1, -, -, -, h2⟩⟩ := hw
  · subst h1
    exact key e0 mc (by rw [h2]; exact List.mem_cons_self ..)
  · exact key e1 mc (by rw [h2, ← h1, List.length_map]; exact List.mem_cons_self ..)
end WSZ
def rX1_count : Room := { frames := 2, cells := 0, slots := 0, locals := 42 }
noncomputable def fX1_count (Sm : zSem) (us : List Wd) (sh : Kp) (sw : Wd) (p1 : Int32) : Option (Int32) :=
  if p1 = (0 : Int32) then
    some (wd_guests sw)
  else
    if p1 = (1 : Int32) then
      some (wd_texts sw)
    else
      if p1 = (2 : Int32) then
        mqn (wd_law sw) (
          some (-1 : Int32)) fun q_4 =>
        mob (Sm q_4) fun nf_5 =>
        some (nI nf_5.1)
      else
        if p1 = (3 : Int32) then
          some (wd_day sw)
        else
          if p1 = (4 : Int32) then
            some (wd_bath sw)
          else
            if p1 = (5 : Int32) then
              some (wd_kept sw)
            else
              if p1 = (6 : Int32) then
                some (wd_masons sw)
              else
                if p1 = (7 : Int32) then
                  some (wd_stones sw)
                else
                  if p1 = (8 : Int32) then
                    some (wd_towers sw)
                  else
                    if p1 = (9 : Int32) then
                      some (wd_bore sw)
                    else
                      if p1 = (10 : Int32) then
                        some (wd_seen sw)
                      else
                        if p1 = (11 : Int32) then
                          mob (fX2_allHoles sw) fun r_17 =>
                          some r_17
                        else
                          if p1 = (12 : Int32) then
                            mob (fX2_hereOnes sw) fun r_20 =>
                            some r_20
                          else
                            if p1 = (13 : Int32) then
                              mob (fX2_doubtOfAll sw) fun r_23 =>
                              some r_23
                            else
                              if p1 = (14 : Int32) then
                                some (wd_logged sw)
                              else
                                if p1 = (15 : Int32) then
                                  some (nI us.length)
                                else
                                  some (-1 : Int32)
theorem kX1_count {R : Room} {s : State} {args : Array Value} {own : String} {idx mc ms : Nat} {rm : Room} (hts : ∀ w ∈ lw_all, w.before args s = true) (hl : Cond.methodLink own idx yX1_count ∈ lw_all) (hrc : rm.cells = mc) (hrs : rm.slots = ms) (hR : rm.frames + 1 ≤ R.frames ∧ 8 + (3 + 11) + rm.locals ≤ R.locals) : CallW R s args own RX1 idx yX1_count cX1_count 3 (some .int) (ws_ yX1_count cX1_count 3 (some .int)) rm mc ms 1 :=
  cwV 1 hts (lw_V hl q737 q738 q107 q739) rfl hrc hrs (by decide +kernel) hR
set_option maxHeartbeats 4000000 in
set_option maxRecDepth 100000 in
theorem mtX1_count (l : Launch) (D : va_G) (k : Nat → ClassId) (ah : Nat → Nat) (aw : Nat → Nat) (adr : Nat → Nat) (aim : Nat → Nat) (ard : Nat → Nat) (asc : Nat → Nat) (ath : Nat → Nat) (awl : Nat → Nat) (alo : Nat → Nat) (atr : Nat → Nat) (Z : zZ) (hOK : zOK D zCl (zTys k) Z) {e0 : Nat} {aF : Nat → Nat} (hFa : zFa Z aF) (hFw : zFw Z) (P : va_W) (Sm : zSem) (hPl : zPl k e0 aF P Sm) {mi : Nat} (hLs : zLs Z e0 mi) (us : List Wd) (w0 : va_W) (hw : wlP k e0 (awl 0) us w0) (sh : Kp) (sw : Wd) (p1 : Int32) (r : Int32) (hrun : fX1_count Sm us sh sw p1 = some r) :
    CtR l yX1_count cX1_count 3 (some .int) rX1_count Z D zCl (((cH k ah aw adr aim ard asc ath awl alo atr sh) ++ (cW k aw sw)) ++ (w0 ++ P)) [.ref (ah 0), .int p1] (some (.int r)) := by
  refine CtR.of (by decide) (Nat.le_of_ble_eq_true rfl) ?_
  intro p e s m args below meth c hE hP hz ls hl
  obtain ⟨hx, hb, hr, hml, hown, hts, hlocks, hname⟩ := hE
  have hown : s.vm.findClass RX1 = some m.cls := hown
  have hK := hOK.1 _ _ _ hz
  have hN := hOK.2.1 _ _ _ hz
  have hl : lv_has ls 3 [(0, .ref (ah 0)), (1, .int p1)] := hl
  unfold fX1_count at hrun
  refine lv_aload_n hx hb dX1_count_0 rfl (lv_at hl 0 rfl) ?_
  refine va_get (ci := 1) (v := .ref (aw 0)) (C := RX1) (T := TX1) (N := 10) hx hb hts in_X1 hown hK hP 0 rfl rfl 0 (by decide) (hts _ q370) (fun _ h9 => h9) rfl dX1_count_1 ?_
  refine lv_astore_n (lv' := [(2, .ref (aw 0)), (0, .ref (ah 0)), (1, .int p1)]) hx hb dX1_count_4 rfl hl (by decide) rfl (fun ls hl => ?_)
  refine lv_iload_n hx hb dX1_count_5 rfl (lv_at hl 2 rfl) ?_
  by_cases c_1 : p1 = (0 : Int32)
  · have hrun := mif_p c_1 hrun
    refine lv_tableIn (off := 78) (tgt := 84) hx hb dX1_count_6 (by rw [c_1]; decide) (by rw [c_1]; decide) (by rw [c_1]; rfl) (by decide) ?_
    refine lv_aload_n hx hb dX1_count_84 rfl (lv_at hl 0 rfl) ?_
    refine va_getN (ci := 2) (v := .int (wd_guests sw)) (C := RX2) (T := TX2) (N := 21) hx hb hts in_X2 hown hK hP 1 rfl rfl 1 (by decide) (va_Nw.use rfl (hN _ (zN_of q166 rfl))) (fun _ h9 => h9) rfl dX1_count_85 ?_
    cases hrun
    exact retR_i hx hb hr hlocks rfl dX1_count_88
  have hrun := mif_n c_1 hrun
  by_cases c_2 : p1 = (1 : Int32)
  · have hrun := mif_p c_2 hrun
    refine lv_tableIn (off := 83) (tgt := 89) hx hb dX1_count_6 (by rw [c_2]; decide) (by rw [c_2]; decide) (by rw [c_2]; rfl) (by decide) ?_
    refine lv_aload_n hx hb dX1_count_89 rfl (lv_at hl 0 rfl) ?_
    refine va_getN (ci := 2) (v := .int (wd_texts sw)) (C := RX2) (T := TX2) (N := 21) hx hb hts in_X2 hown hK hP 1 rfl rfl 0 (by decide) (va_Nw.use rfl (hN _ (zN_of q163 rfl))) (fun _ h9 => h9) rfl dX1_count_90 ?_
    cases hrun
    exact retR_i hx hb hr hlocks rfl dX1_count_93
  have hrun := mif_n c_2 hrun
  by_cases c_3 : p1 = (2 : Int32)
  · have hrun := mif_p c_3 hrun
    refine lv_tableIn (off := 88) (tgt := 94) hx hb dX1_count_6 (by rw [c_3]; decide) (by rw [c_3]; decide) (by rw [c_3]; rfl) (by decide) ?_
    refine lv_aload_n hx hb dX1_count_94 rfl (lv_at hl 0 rfl) ?_
    refine va_getN (ci := 2) (v := va_rf (wd_law sw)) (C := RX2) (T := TX2) (N := 21) hx hb hts in_X2 hown hK hP 1 rfl rfl 20 (by decide) (va_Nw.use rfl (hN _ (zN_of q208 rfl))) (fun _ h9 => h9) rfl dX1_count_95 ?_
    cases eq_4 : (wd_law sw) with
    | none =>
      have hrun := mqn_n eq_4 hrun
      refine lv_ifnonnullN hx hb dX1_count_98 ?_
      refine lv_iconst (v := (-1 : Int32)) hx hb dX1_count_101 (by decide) ?_
      refine lv_goto (tgt := 115) hx hb dX1_count_102 (by decide) ?_
      cases hrun
      exact retR_i hx hb hr hlocks rfl dX1_count_115
    | some q_4 =>
      have hrun := mqn_s eq_4 hrun
      refine lv_ifnonnull (tgt := 105) hx hb dX1_count_98 (by decide) ?_
      refine lv_aload_n hx hb dX1_count_105 rfl (lv_at hl 0 rfl) ?_
      refine va_getN (ci := 2) (v := va_rf (wd_law sw)) (C := RX2) (T := TX2) (N := 21) hx hb hts in_X2 hown hK hP 1 rfl rfl 20 (by decide) (va_Nw.use rfl (hN _ (zN_of q208 rfl))) (fun _ h9 => h9) rfl dX1_count_106 ?_
      refine W.eq (g2 := F0 m 109 ls [.ref q_4]) (by rw [eq_4]; rfl) ?_
      obtain ⟨nf_5, hc_6, hrun⟩ := mob_s rfl hrun
      obtain ⟨ql_5, els_5, gs_5, hq_5, hli_5, hnn_5, hpw_5, hff_5⟩ := hPl q_4 nf_5.1 nf_5.2 hc_6
      obtain ⟨jq_5, hjq_5⟩ := List.getElem?_of_mem ((List.mem_append_right _ (List.mem_append_right _ hq_5)) : _ ∈ (((cH k ah aw adr aim ard asc ath awl alo atr sh) ++ (cW k aw sw)) ++ (w0 ++ P)))
      refine va_getN (ci := 7) (v := .ref ql_5) (C := RX8) (T := TX8) (N := 1) hx hb hts in_X8 hown hK hP jq_5 hjq_5 rfl 0 (by decide) (va_Nw.use rfl (hN _ (zN_of q1316 rfl))) (fun _ h9 => h9) rfl dX1_count_109 ?_
      refine zliSize ⟨hx, hb, hml, hown, hts⟩ hOK hz va_S.rf hP (fun x h => (List.mem_append_right _ (List.mem_append_right _ h))) hli_5 q714 ⟨(Nat.le_of_ble_eq_true rfl), (Nat.le_of_ble_eq_true rfl)⟩ hl.1 (lv_room (Nat.le_of_ble_eq_true rfl)) ⟨(Nat.le_of_ble_eq_true rfl), (Nat.le_of_ble_eq_true rfl)⟩ dX1_count_112 ?_
      rw [← hnn_5]
      cases hrun
      exact retR_i hx hb hr hlocks rfl dX1_count_115
  have hrun := mif_n c_3 hrun
  by_cases c_7 : p1 = (3 : Int32)
  · have hrun := mif_p c_7 hrun
    refine lv_tableIn (off := 110) (tgt := 116) hx hb dX1_count_6 (by rw [c_7]; decide) (by rw [c_7]; decide) (by rw [c_7]; rfl) (by decide) ?_
    refine lv_aload_n hx hb dX1_count_116 rfl (lv_at hl 0 rfl) ?_
    refine va_getN (ci := 2) (v := .int (wd_day sw)) (C := RX2) (T := TX2) (N := 21) hx hb hts in_X2 hown hK hP 1 rfl rfl 2 (by decide) (va_Nw.use rfl (hN _ (zN_of q168 rfl))) (fun _ h9 => h9) rfl dX1_count_117 ?_
    cases hrun
    exact retR_i hx hb hr hlocks rfl dX1_count_120
  have hrun := mif_n c_7 hrun
  by_cases c_8 : p1 = (4 : Int32)
  · have hrun := mif_p c_8 hrun
    refine lv_tableIn (off := 115) (tgt := 121) hx hb dX1_count_6 (by rw [c_8]; decide) (by rw [c_8]; decide) (by rw [c_8]; rfl) (by decide) ?_
    refine lv_aload_n hx hb dX1_count_121 rfl (lv_at hl 0 rfl) ?_
    refine va_getN (ci := 2) (v := .int (wd_bath sw)) (C := RX2) (T := TX2) (N := 21) hx hb hts in_X2 hown hK hP 1 rfl rfl 3 (by decide) (va_Nw.use rfl (hN _ (zN_of q171 rfl))) (fun _ h9 => h9) rfl dX1_count_122 ?_
    cases hrun
    exact retR_i hx hb hr hlocks rfl dX1_count_125
  have hrun := mif_n c_8 hrun
  by_cases c_9 : p1 = (5 : Int32)
  · have hrun := mif_p c_9 hrun
    refine lv_tableIn (off := 120) (tgt := 126) hx hb dX1_count_6 (by rw [c_9]; decide) (by rw [c_9]; decide) (by rw [c_9]; rfl) (by decide) ?_
    refine lv_aload_n hx hb dX1_count_126 rfl (lv_at hl 0 rfl) ?_
    refine va_getN (ci := 2) (v := .int (wd_kept sw)) (C := RX2) (T := TX2) (N := 21) hx hb hts in_X2 hown hK hP 1 rfl rfl 4 (by decide) (va_Nw.use rfl (hN _ (zN_of q173 rfl))) (fun _ h9 => h9) rfl dX1_count_127 ?_
    cases hrun
    exact retR_i hx hb hr hlocks rfl dX1_count_130
  have hrun := mif_n c_9 hrun
  by_cases c_10 : p1 = (6 : Int32)
  · have hrun := mif_p c_10 hrun
    refine lv_tableIn (off := 125) (tgt := 131) hx hb dX1_count_6 (by rw [c_10]; decide) (by rw [c_10]; decide) (by rw [c_10]; rfl) (by decide) ?_
    refine lv_aload_n hx hb dX1_count_131 rfl (lv_at hl 0 rfl) ?_
    refine va_getN (ci := 2) (v := .int (wd_masons sw)) (C := RX2) (T := TX2) (N := 21) hx hb hts in_X2 hown hK hP 1 rfl rfl 5 (by decide) (va_Nw.use rfl (hN _ (zN_of q175 rfl))) (fun _ h9 => h9) rfl dX1_count_132 ?_
    cases hrun
    exact retR_i hx hb hr hlocks rfl dX1_count_135
  have hrun := mif_n c_10 hrun
  by_cases c_11 : p1 = (7 : Int32)
  · have hrun := mif_p c_11 hrun
    refine lv_tableIn (off := 130) (tgt := 136) hx hb dX1_count_6 (by rw [c_11]; decide) (by rw [c_11]; decide) (by rw [c_11]; rfl) (by decide) ?_
    refine lv_aload_n hx hb dX1_count_136 rfl (lv_at hl 0 rfl) ?_
    refine va_getN (ci := 2) (v := .int (wd_stones sw)) (C := RX2) (T := TX2) (N := 21) hx hb hts in_X2 hown hK hP 1 rfl rfl 6 (by decide) (va_Nw.use rfl (hN _ (zN_of q177 rfl))) (fun _ h9 => h9) rfl dX1_count_137 ?_
    cases hrun
    exact retR_i hx hb hr hlocks rfl dX1_count_140
  have hrun := mif_n c_11 hrun
  by_cases c_12 : p1 = (8 : Int32)
  · have hrun := mif_p c_12 hrun
    refine lv_tableIn (off := 135) (tgt := 141) hx hb dX1_count_6 (by rw [c_12]; decide) (by rw [c_12]; decide) (by rw [c_12]; rfl) (by decide) ?_
    refine lv_aload_n hx hb dX1_count_141 rfl (lv_at hl 0 rfl) ?_
    refine va_getN (ci := 2) (v := .int (wd_towers sw)) (C := RX2) (T := TX2) (N := 21) hx hb hts in_X2 hown hK hP 1 rfl rfl 7 (by decide) (va_Nw.use rfl (hN _ (zN_of q179 rfl))) (fun _ h9 => h9) rfl dX1_count_142 ?_
    cases hrun
    exact retR_i hx hb hr hlocks rfl dX1_count_145
  have hrun := mif_n c_12 hrun
  by_cases c_13 : p1 = (9 : Int32)
  · have hrun := mif_p c_13 hrun
    refine lv_tableIn (off := 140) (tgt := 146) hx hb dX1_count_6 (by rw [c_13]; decide) (by rw [c_13]; decide) (by rw [c_13]; rfl) (by decide) ?_
    refine lv_aload_n hx hb dX1_count_146 rfl (lv_at hl 0 rfl) ?_
    refine va_getN (ci := 2) (v := .int (wd_bore sw)) (C := RX2) (T := TX2) (N := 21) hx hb hts in_X2 hown hK hP 1 rfl rfl 8 (by decide) (va_Nw.use rfl (hN _ (zN_of q181 rfl))) (fun _ h9 => h9) rfl dX1_count_147 ?_
    cases hrun
    exact retR_i hx hb hr hlocks rfl dX1_count_150
  have hrun := mif_n c_13 hrun
  by_cases c_14 : p1 = (10 : Int32)
  · have hrun := mif_p c_14 hrun
    refine lv_tableIn (off := 145) (tgt := 151) hx hb dX1_count_6 (by rw [c_14]; decide) (by rw [c_14]; decide) (by rw [c_14]; rfl) (by decide) ?_
    refine lv_aload_n hx hb dX1_count_151 rfl (lv_at hl 0 rfl) ?_
    refine va_getN (ci := 2) (v := .int (wd_seen sw)) (C := RX2) (T := TX2) (N := 21) hx hb hts in_X2 hown hK hP 1 rfl rfl 9 (by decide) (va_Nw.use rfl (hN _ (zN_of q183 rfl))) (fun _ h9 => h9) rfl dX1_count_152 ?_
    cases hrun
    exact retR_i hx hb hr hlocks rfl dX1_count_155
  have hrun := mif_n c_14 hrun
  by_cases c_15 : p1 = (11 : Int32)
  · have hrun := mif_p c_15 hrun
    refine lv_tableIn (off := 150) (tgt := 156) hx hb dX1_count_6 (by rw [c_15]; decide) (by rw [c_15]; decide) (by rw [c_15]; rfl) (by decide) ?_
    refine lv_aload_n hx hb dX1_count_156 rfl (lv_at hl 0 rfl) ?_
    obtain ⟨r_17, hc_16, hrun⟩ := mob_s rfl hrun
    refine cRV (As := []) (ci := 2) ⟨hx, hb, hml, hown, hts⟩ hOK hz va_S.rf (hP.sub (ws' := (cW k aw sw)) [1, 2, 3, 4, 5, 6, 7, 8, 9] rfl) (mtX2_allHoles l D k aw Z hOK _ _ hc_16) (kX2_allHoles hts q740 rfl rfl ⟨Nat.le_of_ble_eq_true rfl, Nat.le_of_ble_eq_true rfl⟩) 0 rfl rfl rfl hl.1 rfl (lv_room (Nat.le_of_ble_eq_true rfl)) ⟨Nat.le_of_ble_eq_true rfl, Nat.le_of_ble_eq_true rfl⟩ dX1_count_157 ?_
    cases hrun
    exact retR_i hx hb hr hlocks rfl dX1_count_160
  have hrun := mif_n c_15 hrun
  by_cases c_18 : p1 = (12 : Int32)
  · have hrun := mif_p c_18 hrun
    refine lv_tableIn (off := 155) (tgt := 161) hx hb dX1_count_6 (by rw [c_18]; decide) (by rw [c_18]; decide) (by rw [c_18]; rfl) (by decide) ?_
    refine lv_aload_n hx hb dX1_count_161 rfl (lv_at hl 0 rfl) ?_
    obtain ⟨r_20, hc_19, hrun⟩ := mob_s rfl hrun
    refine cRV (As := []) (ci := 2) ⟨hx, hb, hml, hown, hts⟩ hOK hz va_S.rf (hP.sub (ws' := (cW k aw sw)) [1, 2, 3, 4, 5, 6, 7, 8, 9] rfl) (mtX2_hereOnes l D k aw Z hOK _ _ hc_19) (kX2_hereOnes hts q643 rfl rfl ⟨Nat.le_of_ble_eq_true rfl, Nat.le_of_ble_eq_true rfl⟩) 0 rfl rfl rfl hl.1 rfl (lv_room (Nat.le_of_ble_eq_true rfl)) ⟨Nat.le_of_ble_eq_true rfl, Nat.le_of_ble_eq_true rfl⟩ dX1_count_162 ?_
    cases hrun
    exact retR_i hx hb hr hlocks rfl dX1_count_165
  have hrun := mif_n c_18 hrun
  by_cases c_21 : p1 = (13 : Int32)
  · have hrun := mif_p c_21 hrun
    refine lv_tableIn (off := 160) (tgt := 166) hx hb dX1_count_6 (by rw [c_21]; decide) (by rw [c_21]; decide) (by rw [c_21]; rfl) (by decide) ?_
    refine lv_aload_n hx hb dX1_count_166 rfl (lv_at hl 0 rfl) ?_
    obtain ⟨r_23, hc_22, hrun⟩ := mob_s rfl hrun
    refine cRV (As := []) (ci := 2) ⟨hx, hb, hml, hown, hts⟩ hOK hz va_S.rf (hP.sub (ws' := (cW k aw sw)) [1, 2, 3, 4, 5, 6, 7, 8, 9] rfl) (mtX2_doubtOfAll l D k aw Z hOK _ _ hc_22) (kX2_doubtOfAll hts q745 rfl rfl ⟨Nat.le_of_ble_eq_true rfl, Nat.le_of_ble_eq_true rfl⟩) 0 rfl rfl rfl hl.1 rfl (lv_room (Nat.le_of_ble_eq_true rfl)) ⟨Nat.le_of_ble_eq_true rfl, Nat.le_of_ble_eq_true rfl⟩ dX1_count_167 ?_
    cases hrun
    exact retR_i hx hb hr hlocks rfl dX1_count_170
  have hrun := mif_n c_21 hrun
  by_cases c_24 : p1 = (14 : Int32)
  · have hrun := mif_p c_24 hrun
    refine lv_tableIn (off := 165) (tgt := 171) hx hb dX1_count_6 (by rw [c_24]; decide) (by rw [c_24]; decide) (by rw [c_24]; rfl) (by decide) ?_
    refine lv_aload_n hx hb dX1_count_171 rfl (lv_at hl 0 rfl) ?_
    refine va_getN (ci := 2) (v := .int (wd_logged sw)) (C := RX2) (T := TX2) (N := 21) hx hb hts in_X2 hown hK hP 1 rfl rfl 10 (by decide) (va_Nw.use rfl (hN _ (zN_of q185 rfl))) (fun _ h9 => h9) rfl dX1_count_172 ?_
    cases hrun
    exact retR_i hx hb hr hlocks rfl dX1_count_175
  have hrun := mif_n c_24 hrun
  by_cases c_25 : p1 = (15 : Int32)
  · have hrun := mif_p c_25 hrun
    refine lv_tableIn (off := 170) (tgt := 176) hx hb dX1_count_6 (by rw [c_25]; decide) (by rw [c_25]; decide) (by rw [c_25]; rfl) (by decide) ?_
    refine lv_aload_n hx hb dX1_count_176 rfl (lv_at hl 1 rfl) ?_
    refine va_get (ci := 1) (v := .ref (awl 0)) (C := RX1) (T := TX1) (N := 10) hx hb hts in_X1 hown hK hP 0 rfl rfl 7 (by decide) (hts _ q378) (fun _ h9 => h9) rfl dX1_count_177 ?_
    refine zwlSize ⟨hx, hb, hml, hown, hts⟩ hOK hz va_S.rf hP (fun x h => (List.mem_append_right _ (List.mem_append_left _ h))) hw q714 ⟨(Nat.le_of_ble_eq_true rfl), (Nat.le_of_ble_eq_true rfl)⟩ hl.1 (lv_room (Nat.le_of_ble_eq_true rfl)) ⟨(Nat.le_of_ble_eq_true rfl), (Nat.le_of_ble_eq_true rfl)⟩ dX1_count_180 ?_
    cases hrun
    exact retR_i hx hb hr hlocks rfl dX1_count_183
  have hrun := mif_n c_25 hrun
  refine lv_tableOut (tgt := 184) hx hb dX1_count_6 (tOut p1 15 (fun k hk => match k, hk with | 0, _ => c_1 | 1, _ => c_2 | 2, _ => c_3 | 3, _ => c_7 | 4, _ => c_8 | 5, _ => c_9 | 6, _ => c_10 | 7, _ => c_11 | 8, _ => c_12 | 9, _ => c_13 | 10, _ => c_14 | 11, _ => c_15 | 12, _ => c_18 | 13, _ => c_21 | 14, _ => c_24 | 15, _ => c_25 | k + 16, hk => absurd hk (by omega))) (by decide) ?_
  refine lv_iconst (v := (-1 : Int32)) hx hb dX1_count_184 (by decide) ?_
  cases hrun
  exact retR_i hx hb hr hlocks rfl dX1_count_185
