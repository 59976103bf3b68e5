/-! walks: X6_thrown, X6_feed, X6_isIn, X6_putsAside, X6_begins, X6_letter, X6_wrong, X6_put, X6_comesBack, X6_fault, X6_isGuest, X6_of, X6_risk -/
def rX6_thrown : Room := { frames := 0, cells := 0, slots := 0, locals := 0 }
noncomputable def fX6_thrown (t : Tw) : Option (Int32) :=
  some (tw_thrown t)
theorem kX6_thrown {R : Room} {s : State} {args : Array Value} {own : String} {idx mc ms : Nat} {rm : Room} (hts : ∀ w ∈ lw_all, w.before args s = true) (hl : Cond.methodLink own idx yX6_thrown ∈ lw_all) (hrc : rm.cells = mc) (hrs : rm.slots = ms) (hR : rm.frames + 1 ≤ R.frames ∧ 8 + (1 + 11) + rm.locals ≤ R.locals) : CallW R s args own RX6 idx yX6_thrown cX6_thrown 1 (some .int) (ws_ yX6_thrown cX6_thrown 1 (some .int)) rm mc ms 0 :=
  cwV 0 hts (lw_V hl q1970 q1971 q115 q1972) rfl hrc hrs (by decide +kernel) hR
set_option maxHeartbeats 4000000 in
set_option maxRecDepth 100000 in
theorem mtX6_thrown (l : Launch) (D : va_G) (k : Nat → ClassId) (a : Nat → Nat) (Z : zZ) (hOK : zOK D zCl (zTys k) Z) (t : Tw) (r : Int32) (hrun : fX6_thrown t = some r) :
    CtR l yX6_thrown cX6_thrown 1 (some .int) rX6_thrown Z D zCl (cT k a t) [.ref (a 0)] (some (.int r)) := by
  refine CtR.of (by decide) (Nat.le_of_ble_eq_true rfl) ?_
  intro p e s m args below meth c hE hP hz ls hl
  obtain ⟨hx, hb, hr, hml, hown, hts, hlocks, hname⟩ := hE
  have hown : s.vm.findClass RX6 = some m.cls := hown
  have hK := hOK.1 _ _ _ hz
  have hl : lv_has ls 1 [(0, .ref (a 0))] := hl
  unfold fX6_thrown at hrun
  refine lv_aload_n hx hb dX6_thrown_0 rfl (lv_at hl 0 rfl) ?_
  refine va_get (ci := 0) (v := .int (tw_thrown t)) (C := RX6) (T := TX6) (N := 22) hx hb hts in_X6 hown hK hP 0 rfl rfl 0 (by decide) (hts _ q1902) (fun _ h9 => h9) rfl dX6_thrown_1 ?_
  cases hrun
  exact retR_i hx hb hr hlocks rfl dX6_thrown_4
def rX6_feed : Room := { frames := 0, cells := 0, slots := 0, locals := 0 }
noncomputable def fX6_feed_L23 (K_5 : Tw → Option (Int32 × Tw)) (p5 : Int32) (p4 : Int32) (p3 : Int32) (p2 : Int32) (p1 : Int32) : Nat → Int32 → Tw → Option (Int32 × Tw)
  | 0, _, _ => none
  | n + 1, x6_7, t_8 =>
    if (20 : Int32) ≤ x6_7 then
      K_5 t_8
    else
      mjn (fun (y_12 : Int32) =>
      mck (tw_taped t_8) 400 <|
      mlt (tw_s_tape t_8 (upd (tw_tape t_8) (Int32.toNatClampNeg (tw_taped t_8)) ((mus y_12 ((24 : Int32) - ((8 : Int32) * (mrm x6_7 (4 : Int32))))) &&& (255 : Int32)))) fun t_15 =>
      mlt (tw_s_taped t_15 ((tw_taped t_15) + (1 : Int32))) fun t_16 =>
      fX6_feed_L23 K_5 p5 p4 p3 p2 p1 n (x6_7 + (1 : Int32)) t_16) fun K_13 =>
      if (4 : Int32) ≤ x6_7 then
        if (8 : Int32) ≤ x6_7 then
          if (12 : Int32) ≤ x6_7 then
            if (16 : Int32) ≤ x6_7 then
              K_13 p5
            else
              K_13 p4
          else
            K_13 p3
        else
          K_13 p2
      else
        K_13 p1
noncomputable def fX6_feed (t : Tw) (p1 : Int32) (p2 : Int32) (p3 : Int32) (p4 : Int32) (p5 : Int32) : Option (Int32 × Tw) :=
  mlt (tw_s_thrown t (0 : Int32)) fun t_1 =>
  if ((tw_taped t_1) + (20 : Int32)) ≤ (400 : Int32) then
    mjn (fun (t_4 : Tw) =>
    some ((tw_taped t_4), t_4)) fun K_5 =>
    fX6_feed_L23 K_5 p5 p4 p3 p2 p1 mFU (0 : Int32) t_1
  else
    some ((-1 : Int32), t_1)
theorem kX6_feed {R : Room} {s : State} {args : Array Value} {own : String} {idx mc ms : Nat} {rm : Room} (hts : ∀ w ∈ lw_all, w.before args s = true) (hl : Cond.methodLink own idx yX6_feed ∈ lw_all) (hrc : rm.cells = mc) (hrs : rm.slots = ms) (hR : rm.frames + 1 ≤ R.frames ∧ 8 + (8 + 11) + rm.locals ≤ R.locals) : CallW R s args own RX6 idx yX6_feed cX6_feed 8 (some .int) (ws_ yX6_feed cX6_feed 8 (some .int)) rm mc ms 5 :=
  cwV 5 hts (lw_V hl q1974 q1975 q115 q1976) rfl hrc hrs (by decide +kernel) hR
set_option maxHeartbeats 4000000 in
set_option maxRecDepth 100000 in
theorem mtX6_feed (l : Launch) (D : va_G) (k : Nat → ClassId) (a : Nat → Nat) (Z : zZ) (hOK : zOK D zCl (zTys k) Z) (t : Tw) (p1 : Int32) (p2 : Int32) (p3 : Int32) (p4 : Int32) (p5 : Int32) (r : Int32) (tt : Tw) (hrun : fX6_feed t p1 p2 p3 p4 p5 = some (r, tt)) :
    CtW l yX6_feed cX6_feed 8 (some .int) rX6_feed Z D zCl (cT k a t) [.ref (a 0), .int p1, .int p2, .int p3, .int p4, .int p5] (fun r' w' => r' = (some (.int r)) ∧ w' = cT k a tt) 0 0 := by
  refine CtW.of (by decide) (Nat.le_of_ble_eq_true rfl) ?_
  intro p e s m args below meth c A hE hA hP hD hS hz ls hl
  obtain ⟨hx, hb, hr, hml, hown, hts, hlocks, hname⟩ := hE
  have hown : s.vm.findClass RX6 = some m.cls := hown
  have hK := hOK.1 _ _ _ hz
  have hl : lv_has ls 8 [(0, .ref (a 0)), (1, .int p1), (2, .int p2), (3, .int p3), (4, .int p4), (5, .int p5)] := hl
  unfold fX6_feed at hrun
  refine lv_aload_n hx hb dX6_feed_0 rfl (lv_at hl 0 rfl) ?_
  refine lv_iconst (v := (0 : Int32)) hx hb dX6_feed_1 (by decide) ?_
  refine va_put (ci := 0) (v := .int (0 : Int32)) (ty := tyX6 0) (C := RX6) (T := TX6) (N := 22) hx hb hts in_X6 tyX6 tyX6_ok nmX6 hown hK hP hD hS 0 rfl rfl 0 (by decide) (hts _ q1902) (fun _ h9 => h9) rfl (tyX6_ok 0 (by decide)) rfl rfl (Nat.le_of_ble_eq_true rfl) dX6_feed_2 (fun H locs hP hD hS => ?_)
  have hP : va_P D zCl (cT k a (tw_s_thrown t (0 : Int32))) H := hP
  have hD : va_D A (cT k a (tw_s_thrown t (0 : Int32))) := hD
  obtain ⟨t_1, et_1⟩ : ∃ z : Tw, z = (tw_s_thrown t (0 : Int32)) := ⟨_, rfl⟩
  rw [← et_1] at hP hD
  have hrun := mlt_s hrun t_1 et_1
  refine lv_aload_n hx hb dX6_feed_5 rfl (lv_at hl 0 rfl) ?_
  refine va_get (ci := 0) (v := .int (tw_taped t_1)) (C := RX6) (T := TX6) (N := 22) hx hb hts in_X6 hown hK hP 0 rfl rfl 8 (by decide) (hts _ q1910) (fun _ h9 => h9) rfl dX6_feed_6 ?_
  refine lv_bipush (v := (20 : Int32)) hx hb dX6_feed_9 (by decide) ?_
  refine lv_iadd hx hb dX6_feed_11 ?_
  refine lv_sipush (v := (400 : Int32)) hx hb dX6_feed_12 (by decide) ?_
  refine lv_icmp_le (tgt := 20) hx hb dX6_feed_15 (by decide) (fun c_2 => ?_) (fun c_2 => ?_)
  · have hrun := mif_p c_2 hrun
    refine lv_iconst (v := (0 : Int32)) hx hb dX6_feed_20 (by decide) ?_
    refine lv_istore (lv' := [(6, .int (0 : Int32)), (0, .ref (a 0)), (1, .int p1), (2, .int p2), (3, .int p3), (4, .int p4), (5, .int p5)]) hx hb dX6_feed_21 hl (by decide) rfl (fun ls hl => ?_)
    obtain ⟨K_5, hK_5, hrun⟩ := mjn_s hrun
    have hj_3 : ∀ (t_4 : Tw), ∀ (H : Heap) (locs : List Loc), va_P D zCl (cT k a t_4) H → va_D A (cT k a t_4) → va_S A s.heap H locs → ∀ ls : Array Slot, lv_has ls 8 [(0, .ref (a 0))] → K_5 t_4 = some (r, tt) → W p l e rX6_feed s m args below meth c H locs 0 0 (MQ below (QWr (fun r' w' => r' = (some (.int r)) ∧ w' = cT k a tt) D zCl A) args s 0 0 A) (F0 m 120 ls []) := by
      intro t_4 H locs hP hD hS ls hl hrun
      rw [hK_5] at hrun
      refine lv_aload_n hx hb dX6_feed_120 rfl (lv_at hl 0 rfl) ?_
      refine va_get (ci := 0) (v := .int (tw_taped t_4)) (C := RX6) (T := TX6) (N := 22) hx hb hts in_X6 hown hK hP 0 rfl rfl 8 (by decide) (hts _ q1910) (fun _ h9 => h9) rfl dX6_feed_121 ?_
      cases hrun
      exact retW_i hx hb hr hlocks hP hD hS ⟨rfl, rfl⟩ dX6_feed_124
    have hL_6 : ∀ n : Nat, ∀ (x6_7 : Int32) (t_8 : Tw), ∀ (H : Heap) (locs : List Loc), va_P D zCl (cT k a t_8) H → va_D A (cT k a t_8) → va_S A s.heap H locs → ∀ ls : Array Slot, lv_has ls 8 [(0, .ref (a 0)), (1, .int p1), (2, .int p2), (3, .int p3), (4, .int p4), (5, .int p5), (6, .int x6_7)] → fX6_feed_L23 K_5 p5 p4 p3 p2 p1 n x6_7 t_8 = some (r, tt) → W p l e rX6_feed s m args below meth c H locs 0 0 (MQ below (QWr (fun r' w' => r' = (some (.int r)) ∧ w' = cT k a tt) D zCl A) args s 0 0 A) (F0 m 23 ls []) := by
      intro n
      induction n with
      | zero =>
        intro x6_7 t_8 H locs hP hD hS ls hl hrun
        exact nomatch hrun
      | succ n ih =>
        intro x6_7 t_8 H locs hP hD hS ls hl hrun
        rw [fX6_feed_L23.eq_2] at hrun
        refine lv_iload hx hb dX6_feed_23 (lv_at hl 6 rfl) ?_
        refine lv_bipush (v := (20 : Int32)) hx hb dX6_feed_25 (by decide) ?_
        refine lv_icmp_ge (tgt := 120) hx hb dX6_feed_27 (by decide) (fun c_9 => ?_) (fun c_9 => ?_)
        · have hrun := mif_p c_9 hrun
          exact hj_3 t_8 _ _ hP hD hS ls (lv_sub hl [0] rfl) hrun
        have hrun := mif_n c_9 hrun
        refine lv_iload hx hb dX6_feed_30 (lv_at hl 6 rfl) ?_
        refine lv_iconst (v := (4 : Int32)) hx hb dX6_feed_32 (by decide) ?_
        obtain ⟨K_13, hK_13, hrun⟩ := mjn_s hrun
        have hj_11 : ∀ (y_12 : Int32), ∀ (H : Heap) (locs : List Loc), va_P D zCl (cT k a t_8) H → va_D A (cT k a t_8) → va_S A s.heap H locs → ∀ ls : Array Slot, lv_has ls 8 [(0, .ref (a 0)), (1, .int p1), (2, .int p2), (3, .int p3), (4, .int p4), (5, .int p5), (6, .int x6_7)] → K_13 y_12 = some (r, tt) → W p l e rX6_feed s m args below meth c H locs 0 0 (MQ below (QWr (fun r' w' => r' = (some (.int r)) ∧ w' = cT k a tt) D zCl A) args s 0 0 A) (F0 m 76 ls [.int y_12]) := by
          intro y_12 H locs hP hD hS ls hl hrun
          rw [hK_13] at hrun
          refine lv_istore (lv' := [(7, .int y_12), (0, .ref (a 0)), (1, .int p1), (2, .int p2), (3, .int p3), (4, .int p4), (5, .int p5), (6, .int x6_7)]) hx hb dX6_feed_76 hl (by decide) rfl (fun ls hl => ?_)
          refine lv_aload_n hx hb dX6_feed_78 rfl (lv_at hl 1 rfl) ?_
          refine va_get (ci := 0) (v := .ref (a 5)) (C := RX6) (T := TX6) (N := 22) hx hb hts in_X6 hown hK hP 0 rfl rfl 7 (by decide) (hts _ q1909) (fun _ h9 => h9) rfl dX6_feed_79 ?_
          refine lv_aload_n hx hb dX6_feed_82 rfl (lv_at hl 1 rfl) ?_
          refine va_get (ci := 0) (v := .int (tw_taped t_8)) (C := RX6) (T := TX6) (N := 22) hx hb hts in_X6 hown hK hP 0 rfl rfl 8 (by decide) (hts _ q1910) (fun _ h9 => h9) rfl dX6_feed_83 ?_
          refine lv_iload hx hb dX6_feed_86 (lv_at hl 0 rfl) ?_
          refine lv_bipush (v := (24 : Int32)) hx hb dX6_feed_88 (by decide) ?_
          refine lv_bipush (v := (8 : Int32)) hx hb dX6_feed_90 (by decide) ?_
          refine lv_iload hx hb dX6_feed_92 (lv_at hl 7 rfl) ?_
          refine lv_iconst (v := (4 : Int32)) hx hb dX6_feed_94 (by decide) ?_
          refine lv_irem hx hb dX6_feed_95 (by decide) ?_
          refine lv_imul hx hb dX6_feed_96 ?_
          refine lv_isub hx hb dX6_feed_97 ?_
          refine lv_iushr (v := (mus y_12 ((24 : Int32) - ((8 : Int32) * (mrm x6_7 (4 : Int32)))))) hx hb dX6_feed_98 rfl ?_
          refine lv_sipush (v := (255 : Int32)) hx hb dX6_feed_99 (by decide) ?_
          refine lv_iand hx hb dX6_feed_102 ?_
          obtain ⟨hb_14, hrun⟩ := mck_s rfl hrun
          refine va_iast hx hb hK hP hD hS 5 0 rfl rfl hb_14 dX6_feed_103 (fun H locs hP hD hS => ?_)
          have hP : va_P D zCl (cT k a (tw_s_tape t_8 (upd (tw_tape t_8) (Int32.toNatClampNeg (tw_taped t_8)) ((mus y_12 ((24 : Int32) - ((8 : Int32) * (mrm x6_7 (4 : Int32))))) &&& (255 : Int32))))) H := hP
          have hD : va_D A (cT k a (tw_s_tape t_8 (upd (tw_tape t_8) (Int32.toNatClampNeg (tw_taped t_8)) ((mus y_12 ((24 : Int32) - ((8 : Int32) * (mrm x6_7 (4 : Int32))))) &&& (255 : Int32))))) := hD
          obtain ⟨t_15, et_15⟩ : ∃ z : Tw, z = (tw_s_tape t_8 (upd (tw_tape t_8) (Int32.toNatClampNeg (tw_taped t_8)) ((mus y_12 ((24 : Int32) - ((8 : Int32) * (mrm x6_7 (4 : Int32))))) &&& (255 : Int32)))) := ⟨_, rfl⟩
          rw [← et_15] at hP hD
          have hrun := mlt_s hrun t_15 et_15
          refine lv_aload_n hx hb dX6_feed_104 rfl (lv_at hl 1 rfl) ?_
          refine lv_dup hx hb dX6_feed_105 rfl ?_
          refine va_get (ci := 0) (v := .int (tw_taped t_15)) (C := RX6) (T := TX6) (N := 22) hx hb hts in_X6 hown hK hP 0 rfl rfl 8 (by decide) (hts _ q1910) (fun _ h9 => h9) rfl dX6_feed_106 ?_
          refine lv_iconst (v := (1 : Int32)) hx hb dX6_feed_109 (by decide) ?_
          refine lv_iadd hx hb dX6_feed_110 ?_
          refine va_put (ci := 0) (v := .int ((tw_taped t_15) + (1 : Int32))) (ty := tyX6 8) (C := RX6) (T := TX6) (N := 22) hx hb hts in_X6 tyX6 tyX6_ok nmX6 hown hK hP hD hS 0 rfl rfl 8 (by decide) (hts _ q1910) (fun _ h9 => h9) rfl (tyX6_ok 8 (by decide)) rfl rfl (Nat.le_of_ble_eq_true rfl) dX6_feed_111 (fun H locs hP hD hS => ?_)
          have hP : va_P D zCl (cT k a (tw_s_taped t_15 ((tw_taped t_15) + (1 : Int32)))) H := hP
          have hD : va_D A (cT k a (tw_s_taped t_15 ((tw_taped t_15) + (1 : Int32)))) := hD
          obtain ⟨t_16, et_16⟩ : ∃ z : Tw, z = (tw_s_taped t_15 ((tw_taped t_15) + (1 : Int32))) := ⟨_, rfl⟩
          rw [← et_16] at hP hD
          have hrun := mlt_s hrun t_16 et_16
          refine lv_iinc (v := (x6_7 + (1 : Int32))) (lv' := [(6, .int (x6_7 + (1 : Int32))), (7, .int y_12), (0, .ref (a 0)), (1, .int p1), (2, .int p2), (3, .int p3), (4, .int p4), (5, .int p5)]) hx hb dX6_feed_114 hl (k := 7) rfl rfl (by decide) rfl (fun ls hl => ?_)
          refine lv_goto (tgt := 23) hx hb dX6_feed_117 (by decide) ?_
          exact ih (x6_7 + (1 : Int32)) t_16 _ _ hP hD hS ls (lv_sub hl [2, 3, 4, 5, 6, 7, 0] rfl) hrun
        refine lv_icmp_ge (tgt := 40) hx hb dX6_feed_33 (by decide) (fun c_10 => ?_) (fun c_10 => ?_)
        · have hrun := mif_p c_10 hrun
          refine lv_iload hx hb dX6_feed_40 (lv_at hl 6 rfl) ?_
          refine lv_bipush (v := (8 : Int32)) hx hb dX6_feed_42 (by decide) ?_
          refine lv_icmp_ge (tgt := 51) hx hb dX6_feed_44 (by decide) (fun c_17 => ?_) (fun c_17 => ?_)
          · have hrun := mif_p c_17 hrun
            refine lv_iload hx hb dX6_feed_51 (lv_at hl 6 rfl) ?_
            refine lv_bipush (v := (12 : Int32)) hx hb dX6_feed_53 (by decide) ?_
            refine lv_icmp_ge (tgt := 62) hx hb dX6_feed_55 (by decide) (fun c_18 => ?_) (fun c_18 => ?_)
            · have hrun := mif_p c_18 hrun
              refine lv_iload hx hb dX6_feed_62 (lv_at hl 6 rfl) ?_
              refine lv_bipush (v := (16 : Int32)) hx hb dX6_feed_64 (by decide) ?_
              refine lv_icmp_ge (tgt := 74) hx hb dX6_feed_66 (by decide) (fun c_19 => ?_) (fun c_19 => ?_)
              · have hrun := mif_p c_19 hrun
                refine lv_iload hx hb dX6_feed_74 (lv_at hl 5 rfl) ?_
                exact hj_11 p5 _ _ hP hD hS ls (lv_sub hl [0, 1, 2, 3, 4, 5, 6] rfl) hrun
              have hrun := mif_n c_19 hrun
              refine lv_iload hx hb dX6_feed_69 (lv_at hl 4 rfl) ?_
              refine lv_goto (tgt := 76) hx hb dX6_feed_71 (by decide) ?_
              exact hj_11 p4 _ _ hP hD hS ls (lv_sub hl [0, 1, 2, 3, 4, 5, 6] rfl) hrun
            have hrun := mif_n c_18 hrun
            refine lv_iload_n hx hb dX6_feed_58 rfl (lv_at hl 3 rfl) ?_
            refine lv_goto (tgt := 76) hx hb dX6_feed_59 (by decide) ?_
            exact hj_11 p3 _ _ hP hD hS ls (lv_sub hl [0, 1, 2, 3, 4, 5, 6] rfl) hrun
          have hrun := mif_n c_17 hrun
          refine lv_iload_n hx hb dX6_feed_47 rfl (lv_at hl 2 rfl) ?_
          refine lv_goto (tgt := 76) hx hb dX6_feed_48 (by decide) ?_
          exact hj_11 p2 _ _ hP hD hS ls (lv_sub hl [0, 1, 2, 3, 4, 5, 6] rfl) hrun
        have hrun := mif_n c_10 hrun
        refine lv_iload_n hx hb dX6_feed_36 rfl (lv_at hl 1 rfl) ?_
        refine lv_goto (tgt := 76) hx hb dX6_feed_37 (by decide) ?_
        exact hj_11 p1 _ _ hP hD hS ls (lv_sub hl [0, 1, 2, 3, 4, 5, 6] rfl) hrun
    exact hL_6 mFU (0 : Int32) t_1 _ _ hP hD hS ls (lv_sub hl [1, 2, 3, 4, 5, 6, 0] rfl) hrun
  have hrun := mif_n c_2 hrun
  refine lv_iconst (v := (-1 : Int32)) hx hb dX6_feed_18 (by decide) ?_
  cases hrun
  exact retW_i hx hb hr hlocks hP hD hS ⟨rfl, rfl⟩ dX6_feed_19
def rX6_isIn : Room := { frames := 0, cells := 0, slots := 0, locals := 0 }
noncomputable def fX6_isIn (p0 : Int32) (p1 : Int32) (p2 : Int32) : Option (Bool) :=
  if p0 < p1 then
    some false
  else
    if p2 < p0 then
      some false
    else
      some true
theorem kX6_isIn {R : Room} {s : State} {args : Array Value} {own : String} {idx mc ms : Nat} {rm : Room} (hts : ∀ w ∈ lw_all, w.before args s = true) (hl : Cond.methodLink own idx yX6_isIn ∈ lw_all) (hrc : rm.cells = mc) (hrs : rm.slots = ms) (hR : rm.frames + 1 ≤ R.frames ∧ 8 + (3 + 11) + rm.locals ≤ R.locals) : CallB R s args own idx yX6_isIn cX6_isIn 3 (some .boolean) (ws_ yX6_isIn cX6_isIn 3 (some .boolean)) rm mc ms 3 ∧ (Cond.static yX6_isIn).before args s = true :=
  va_cwS 3 hts (lw_S hl q1982 q115 q1983) rfl hrc hrs (by decide +kernel) hR
set_option maxHeartbeats 4000000 in
set_option maxRecDepth 100000 in
theorem mtX6_isIn (l : Launch) (D : va_G) (Z : zZ) {tys : List (ClassId × FieldType)} (hOK : zOK D zCl tys Z) (p0 : Int32) (p1 : Int32) (p2 : Int32) (r : Bool) (hrun : fX6_isIn p0 p1 p2 = some r) :
    CtR l yX6_isIn cX6_isIn 3 (some .boolean) rX6_isIn Z D zCl [] [.int p0, .int p1, .int p2] (some (.int (bz r))) := by
  refine CtR.of (by decide) (Nat.le_of_ble_eq_true rfl) ?_
  intro p e s m args below meth c hE hP hz ls hl
  obtain ⟨hx, hb, hr, hml, hown, hts, hlocks, hname⟩ := hE
  have hown : s.vm.findClass RX6 = some m.cls := hown
  have hK := hOK.1 _ _ _ hz
  have hl : lv_has ls 3 [(0, .int p0), (1, .int p1), (2, .int p2)] := hl
  unfold fX6_isIn at hrun
  refine lv_iload_n hx hb dX6_isIn_0 rfl (lv_at hl 0 rfl) ?_
  refine lv_iload_n hx hb dX6_isIn_1 rfl (lv_at hl 1 rfl) ?_
  refine lv_icmp_lt (tgt := 14) hx hb dX6_isIn_2 (by decide) (fun c_1 => ?_) (fun c_1 => ?_)
  · have hrun := mif_p c_1 hrun
    refine lv_iconst (v := (0 : Int32)) hx hb dX6_isIn_14 (by decide) ?_
    cases hrun
    exact retR_z (v := false) hx hb hr hlocks rfl dX6_isIn_15
  have hrun := mif_n c_1 hrun
  refine lv_iload_n hx hb dX6_isIn_5 rfl (lv_at hl 0 rfl) ?_
  refine lv_iload_n hx hb dX6_isIn_6 rfl (lv_at hl 2 rfl) ?_
  refine lv_icmp_gt (tgt := 14) hx hb dX6_isIn_7 (by decide) (fun c_2 => ?_) (fun c_2 => ?_)
  · have hrun := mif_p c_2 hrun
    refine lv_iconst (v := (0 : Int32)) hx hb dX6_isIn_14 (by decide) ?_
    cases hrun
    exact retR_z (v := false) hx hb hr hlocks rfl dX6_isIn_15
  have hrun := mif_n c_2 hrun
  refine lv_iconst (v := (1 : Int32)) hx hb dX6_isIn_10 (by decide) ?_
  refine lv_goto (tgt := 15) hx hb dX6_isIn_11 (by decide) ?_
  cases hrun
  exact retR_z (v := true) hx hb hr hlocks rfl dX6_isIn_15
def rX6_putsAside : Room := { frames := 0, cells := 0, slots := 0, locals := 0 }
noncomputable def fX6_putsAside_L2 : Nat → Int32 → Tw → Option (Tw)
  | 0, _, _ => none
  | n + 1, x1_2, t_3 =>
    if (304 : Int32) ≤ x1_2 then
      some t_3
    else
      mck x1_2 704 <|
      mck x1_2 304 <|
      mlt (tw_s_aside t_3 (upd (tw_aside t_3) (Int32.toNatClampNeg x1_2) ((tw_m t_3) (Int32.toNatClampNeg x1_2)))) fun t_7 =>
      fX6_putsAside_L2 n (x1_2 + (1 : Int32)) t_7
noncomputable def fX6_putsAside (t : Tw) : Option (Tw) :=
  fX6_putsAside_L2 mFU (0 : Int32) t
theorem kX6_putsAside {R : Room} {s : State} {args : Array Value} {own : String} {idx mc ms : Nat} {rm : Room} (hts : ∀ w ∈ lw_all, w.before args s = true) (hl : Cond.methodLink own idx yX6_putsAside ∈ lw_all) (hrc : rm.cells = mc) (hrs : rm.slots = ms) (hR : rm.frames + 1 ≤ R.frames ∧ 8 + (2 + 11) + rm.locals ≤ R.locals) : CallW R s args own RX6 idx yX6_putsAside cX6_putsAside 2 none (ws_ yX6_putsAside cX6_putsAside 2 none) rm mc ms 0 :=
  cwV 0 hts (lw_V hl q1990 qs49 q115 q1991) rfl hrc hrs (by decide +kernel) hR
set_option maxHeartbeats 4000000 in
set_option maxRecDepth 100000 in
theorem mtX6_putsAside (l : Launch) (D : va_G) (k : Nat → ClassId) (a : Nat → Nat) (Z : zZ) (hOK : zOK D zCl (zTys k) Z) (t : Tw) (tt : Tw) (hrun : fX6_putsAside t = some tt) :
    CtW l yX6_putsAside cX6_putsAside 2 none rX6_putsAside Z D zCl (cT k a t) [.ref (a 0)] (fun r' w' => r' = none ∧ w' = cT k a tt) 0 0 := by
  refine CtW.of (by decide) (Nat.le_of_ble_eq_true rfl) ?_
  intro p e s m args below meth c A hE hA hP hD hS hz ls hl
  obtain ⟨hx, hb, hr, hml, hown, hts, hlocks, hname⟩ := hE
  have hown : s.vm.findClass RX6 = some m.cls := hown
  have hK := hOK.1 _ _ _ hz
  have hl : lv_has ls 2 [(0, .ref (a 0))] := hl
  unfold fX6_putsAside at hrun
  refine lv_iconst (v := (0 : Int32)) hx hb dX6_putsAside_0 (by decide) ?_
  refine lv_istore_n (lv' := [(1, .int (0 : Int32)), (0, .ref (a 0))]) hx hb dX6_putsAside_1 rfl hl (by decide) rfl (fun ls hl => ?_)
  have hL_1 : ∀ n : Nat, ∀ (x1_2 : Int32) (t_3 : Tw), ∀ (H : Heap) (locs : List Loc), va_P D zCl (cT k a t_3) H → va_D A (cT k a t_3) → va_S A s.heap H locs → ∀ ls : Array Slot, lv_has ls 2 [(0, .ref (a 0)), (1, .int x1_2)] → fX6_putsAside_L2 n x1_2 t_3 = some tt → W p l e rX6_putsAside s m args below meth c H locs 0 0 (MQ below (QWr (fun r' w' => r' = none ∧ w' = cT k a tt) D zCl A) args s 0 0 A) (F0 m 2 ls []) := by
    intro n
    induction n with
    | zero =>
      intro x1_2 t_3 H locs hP hD hS ls hl hrun
      exact nomatch hrun
    | succ n ih =>
      intro x1_2 t_3 H locs hP hD hS ls hl hrun
      rw [fX6_putsAside_L2.eq_2] at hrun
      refine lv_iload_n hx hb dX6_putsAside_2 rfl (lv_at hl 1 rfl) ?_
      refine lv_sipush (v := (304 : Int32)) hx hb dX6_putsAside_3 (by decide) ?_
      refine lv_icmp_ge (tgt := 27) hx hb dX6_putsAside_6 (by decide) (fun c_4 => ?_) (fun c_4 => ?_)
      · have hrun := mif_p c_4 hrun
        cases hrun
        exact retW_v hx hb hr hlocks hP hD hS ⟨rfl, rfl⟩ dX6_putsAside_27
      have hrun := mif_n c_4 hrun
      refine lv_aload_n hx hb dX6_putsAside_9 rfl (lv_at hl 0 rfl) ?_
      refine va_get (ci := 0) (v := .ref (a 3)) (C := RX6) (T := TX6) (N := 22) hx hb hts in_X6 hown hK hP 0 rfl rfl 4 (by decide) (hts _ q1906) (fun _ h9 => h9) rfl dX6_putsAside_10 ?_
      refine lv_iload_n hx hb dX6_putsAside_13 rfl (lv_at hl 1 rfl) ?_
      refine lv_aload_n hx hb dX6_putsAside_14 rfl (lv_at hl 0 rfl) ?_
      refine va_get (ci := 0) (v := .ref (a 1)) (C := RX6) (T := TX6) (N := 22) hx hb hts in_X6 hown hK hP 0 rfl rfl 1 (by decide) (hts _ q1903) (fun _ h9 => h9) rfl dX6_putsAside_15 ?_
      refine lv_iload_n hx hb dX6_putsAside_18 rfl (lv_at hl 1 rfl) ?_
      obtain ⟨hb_5, hrun⟩ := mck_s rfl hrun
      refine va_iald hx hb hK hP 1 0 rfl rfl hb_5 dX6_putsAside_19 ?_
      obtain ⟨hb_6, hrun⟩ := mck_s rfl hrun
      refine va_iast hx hb hK hP hD hS 3 0 rfl rfl hb_6 dX6_putsAside_20 (fun H locs hP hD hS => ?_)
      have hP : va_P D zCl (cT k a (tw_s_aside t_3 (upd (tw_aside t_3) (Int32.toNatClampNeg x1_2) ((tw_m t_3) (Int32.toNatClampNeg x1_2))))) H := hP
      have hD : va_D A (cT k a (tw_s_aside t_3 (upd (tw_aside t_3) (Int32.toNatClampNeg x1_2) ((tw_m t_3) (Int32.toNatClampNeg x1_2))))) := hD
      obtain ⟨t_7, et_7⟩ : ∃ z : Tw, z = (tw_s_aside t_3 (upd (tw_aside t_3) (Int32.toNatClampNeg x1_2) ((tw_m t_3) (Int32.toNatClampNeg x1_2)))) := ⟨_, rfl⟩
      rw [← et_7] at hP hD
      have hrun := mlt_s hrun t_7 et_7
      refine lv_iinc (v := (x1_2 + (1 : Int32))) (lv' := [(1, .int (x1_2 + (1 : Int32))), (0, .ref (a 0))]) hx hb dX6_putsAside_21 hl (k := 1) rfl rfl (by decide) rfl (fun ls hl => ?_)
      refine lv_goto (tgt := 2) hx hb dX6_putsAside_24 (by decide) ?_
      exact ih (x1_2 + (1 : Int32)) t_7 _ _ hP hD hS ls (lv_sub hl [1, 0] rfl) hrun
  exact hL_1 mFU (0 : Int32) t _ _ hP hD hS ls (lv_sub hl [1, 0] rfl) hrun
def rX6_begins : Room := { frames := 0, cells := 0, slots := 0, locals := 0 }
noncomputable def fX6_begins (t : Tw) : Option (Tw) :=
  mlt (tw_s_fault t (-1 : Int32)) fun t_1 =>
  mlt (tw_s_base t_1 (-1 : Int32)) fun t_2 =>
  mlt (tw_s_end_ t_2 (tw_taped t_2)) fun t_3 =>
  mlt (tw_s_taped t_3 (0 : Int32)) fun t_4 =>
  mlt (tw_s_at_ t_4 (0 : Int32)) fun t_5 =>
  mlt (tw_s_deep t_5 (0 : Int32)) fun t_6 =>
  some t_6
theorem kX6_begins {R : Room} {s : State} {args : Array Value} {own : String} {idx mc ms : Nat} {rm : Room} (hts : ∀ w ∈ lw_all, w.before args s = true) (hl : Cond.methodLink own idx yX6_begins ∈ lw_all) (hrc : rm.cells = mc) (hrs : rm.slots = ms) (hR : rm.frames + 1 ≤ R.frames ∧ 8 + (1 + 11) + rm.locals ≤ R.locals) : CallW R s args own RX6 idx yX6_begins cX6_begins 1 none (ws_ yX6_begins cX6_begins 1 none) rm mc ms 0 :=
  cwV 0 hts (lw_V hl q1994 qs50 q115 q1995) rfl hrc hrs (by decide +kernel) hR
set_option maxHeartbeats 4000000 in
set_option maxRecDepth 100000 in
theorem mtX6_begins (l : Launch) (D : va_G) (k : Nat → ClassId) (a : Nat → Nat) (Z : zZ) (hOK : zOK D zCl (zTys k) Z) (t : Tw) (tt : Tw) (hrun : fX6_begins t = some tt) :
    CtW l yX6_begins cX6_begins 1 none rX6_begins Z D zCl (cT k a t) [.ref (a 0)] (fun r' w' => r' = none ∧ w' = cT k a tt) 0 0 := by
  refine CtW.of (by decide) (Nat.le_of_ble_eq_true rfl) ?_
  intro p e s m args below meth c A hE hA hP hD hS hz ls hl
  obtain ⟨hx, hb, hr, hml, hown, hts, hlocks, hname⟩ := hE
  have hown : s.vm.findClass RX6 = some m.cls := hown
  have hK := hOK.1 _ _ _ hz
  have hl : lv_has ls 1 [(0, .ref (a 0))] := hl
  unfold fX6_begins at hrun
  refine lv_aload_n hx hb dX6_begins_0 rfl (lv_at hl 0 rfl) ?_
  refine lv_iconst (v := (-1 : Int32)) hx hb dX6_begins_1 (by decide) ?_
  refine va_put (ci := 0) (v := .int (-1 : Int32)) (ty := tyX6 12) (C := RX6) (T := TX6) (N := 22) hx hb hts in_X6 tyX6 tyX6_ok nmX6 hown hK hP hD hS 0 rfl rfl 12 (by decide) (hts _ q1914) (fun _ h9 => h9) rfl (tyX6_ok 12 (by decide)) rfl rfl (Nat.le_of_ble_eq_true rfl) dX6_begins_2 (fun H locs hP hD hS => ?_)
  have hP : va_P D zCl (cT k a (tw_s_fault t (-1 : Int32))) H := hP
  have hD : va_D A (cT k a (tw_s_fault t (-1 : Int32))) := hD
  obtain ⟨t_1, et_1⟩ : ∃ z : Tw, z = (tw_s_fault t (-1 : Int32)) := ⟨_, rfl⟩
  rw [← et_1] at hP hD
  have hrun := mlt_s hrun t_1 et_1
  refine lv_aload_n hx hb dX6_begins_5 rfl (lv_at hl 0 rfl) ?_
  refine lv_iconst (v := (-1 : Int32)) hx hb dX6_begins_6 (by decide) ?_
  refine va_put (ci := 0) (v := .int (-1 : Int32)) (ty := tyX6 9) (C := RX6) (T := TX6) (N := 22) hx hb hts in_X6 tyX6 tyX6_ok nmX6 hown hK hP hD hS 0 rfl rfl 9 (by decide) (hts _ q1911) (fun _ h9 => h9) rfl (tyX6_ok 9 (by decide)) rfl rfl (Nat.le_of_ble_eq_true rfl) dX6_begins_7 (fun H locs hP hD hS => ?_)
  have hP : va_P D zCl (cT k a (tw_s_base t_1 (-1 : Int32))) H := hP
  have hD : va_D A (cT k a (tw_s_base t_1 (-1 : Int32))) := hD
  obtain ⟨t_2, et_2⟩ : ∃ z : Tw, z = (tw_s_base t_1 (-1 : Int32)) := ⟨_, rfl⟩
  rw [← et_2] at hP hD
  have hrun := mlt_s hrun t_2 et_2
  refine lv_aload_n hx hb dX6_begins_10 rfl (lv_at hl 0 rfl) ?_
  refine lv_aload_n hx hb dX6_begins_11 rfl (lv_at hl 0 rfl) ?_
  refine va_get (ci := 0) (v := .int (tw_taped t_2)) (C := RX6) (T := TX6) (N := 22) hx hb hts in_X6 hown hK hP 0 rfl rfl 8 (by decide) (hts _ q1910) (fun _ h9 => h9) rfl dX6_begins_12 ?_
  refine va_put (ci := 0) (v := .int (tw_taped t_2)) (ty := tyX6 10) (C := RX6) (T := TX6) (N := 22) hx hb hts in_X6 tyX6 tyX6_ok nmX6 hown hK hP hD hS 0 rfl rfl 10 (by decide) (hts _ q1912) (fun _ h9 => h9) rfl (tyX6_ok 10 (by decide)) rfl rfl (Nat.le_of_ble_eq_true rfl) dX6_begins_15 (fun H locs hP hD hS => ?_)
  have hP : va_P D zCl (cT k a (tw_s_end_ t_2 (tw_taped t_2))) H := hP
  have hD : va_D A (cT k a (tw_s_end_ t_2 (tw_taped t_2))) := hD
  obtain ⟨t_3, et_3⟩ : ∃ z : Tw, z = (tw_s_end_ t_2 (tw_taped t_2)) := ⟨_, rfl⟩
  rw [← et_3] at hP hD
  have hrun := mlt_s hrun t_3 et_3
  refine lv_aload_n hx hb dX6_begins_18 rfl (lv_at hl 0 rfl) ?_
  refine lv_iconst (v := (0 : Int32)) hx hb dX6_begins_19 (by decide) ?_
  refine va_put (ci := 0) (v := .int (0 : Int32)) (ty := tyX6 8) (C := RX6) (T := TX6) (N := 22) hx hb hts in_X6 tyX6 tyX6_ok nmX6 hown hK hP hD hS 0 rfl rfl 8 (by decide) (hts _ q1910) (fun _ h9 => h9) rfl (tyX6_ok 8 (by decide)) rfl rfl (Nat.le_of_ble_eq_true rfl) dX6_begins_20 (fun H locs hP hD hS => ?_)
  have hP : va_P D zCl (cT k a (tw_s_taped t_3 (0 : Int32))) H := hP
  have hD : va_D A (cT k a (tw_s_taped t_3 (0 : Int32))) := hD
  obtain ⟨t_4, et_4⟩ : ∃ z : Tw, z = (tw_s_taped t_3 (0 : Int32)) := ⟨_, rfl⟩
  rw [← et_4] at hP hD
  have hrun := mlt_s hrun t_4 et_4
  refine lv_aload_n hx hb dX6_begins_23 rfl (lv_at hl 0 rfl) ?_
  refine lv_iconst (v := (0 : Int32)) hx hb dX6_begins_24 (by decide) ?_
  refine va_put (ci := 0) (v := .int (0 : Int32)) (ty := tyX6 11) (C := RX6) (T := TX6) (N := 22) hx hb hts in_X6 tyX6 tyX6_ok nmX6 hown hK hP hD hS 0 rfl rfl 11 (by decide) (hts _ q1913) (fun _ h9 => h9) rfl (tyX6_ok 11 (by decide)) rfl rfl (Nat.le_of_ble_eq_true rfl) dX6_begins_25 (fun H locs hP hD hS => ?_)
  have hP : va_P D zCl (cT k a (tw_s_at_ t_4 (0 : Int32))) H := hP
  have hD : va_D A (cT k a (tw_s_at_ t_4 (0 : Int32))) := hD
  obtain ⟨t_5, et_5⟩ : ∃ z : Tw, z = (tw_s_at_ t_4 (0 : Int32)) := ⟨_, rfl⟩
  rw [← et_5] at hP hD
  have hrun := mlt_s hrun t_5 et_5
  refine lv_aload_n hx hb dX6_begins_28 rfl (lv_at hl 0 rfl) ?_
  refine lv_iconst (v := (0 : Int32)) hx hb dX6_begins_29 (by decide) ?_
  refine va_put (ci := 0) (v := .int (0 : Int32)) (ty := tyX6 13) (C := RX6) (T := TX6) (N := 22) hx hb hts in_X6 tyX6 tyX6_ok nmX6 hown hK hP hD hS 0 rfl rfl 13 (by decide) (hts _ q1915) (fun _ h9 => h9) rfl (tyX6_ok 13 (by decide)) rfl rfl (Nat.le_of_ble_eq_true rfl) dX6_begins_30 (fun H locs hP hD hS => ?_)
  have hP : va_P D zCl (cT k a (tw_s_deep t_5 (0 : Int32))) H := hP
  have hD : va_D A (cT k a (tw_s_deep t_5 (0 : Int32))) := hD
  obtain ⟨t_6, et_6⟩ : ∃ z : Tw, z = (tw_s_deep t_5 (0 : Int32)) := ⟨_, rfl⟩
  rw [← et_6] at hP hD
  have hrun := mlt_s hrun t_6 et_6
  cases hrun
  exact retW_v hx hb hr hlocks hP hD hS ⟨rfl, rfl⟩ dX6_begins_33
def rX6_letter : Room := { frames := 0, cells := 0, slots := 0, locals := 0 }
noncomputable def fX6_letter (t : Tw) (p1 : Int32) : Option (Int32) :=
  if (tw_base t) = (-1 : Int32) then
    mck p1 400 <|
    some ((tw_tape t) (Int32.toNatClampNeg p1))
  else
    mck ((tw_base t) + p1) 704 <|
    some ((tw_m t) (Int32.toNatClampNeg ((tw_base t) + p1)))
theorem kX6_letter {R : Room} {s : State} {args : Array Value} {own : String} {idx mc ms : Nat} {rm : Room} (hts : ∀ w ∈ lw_all, w.before args s = true) (hl : Cond.methodLink own idx yX6_letter ∈ lw_all) (hrc : rm.cells = mc) (hrs : rm.slots = ms) (hR : rm.frames + 1 ≤ R.frames ∧ 8 + (2 + 11) + rm.locals ≤ R.locals) : CallW R s args own RX6 idx yX6_letter cX6_letter 2 (some .int) (ws_ yX6_letter cX6_letter 2 (some .int)) rm mc ms 1 :=
  cwV 1 hts (lw_V hl q2006 qs53 q115 q2007) rfl hrc hrs (by decide +kernel) hR
set_option maxHeartbeats 4000000 in
set_option maxRecDepth 100000 in
theorem mtX6_letter (l : Launch) (D : va_G) (k : Nat → ClassId) (a : Nat → Nat) (Z : zZ) (hOK : zOK D zCl (zTys k) Z) (t : Tw) (p1 : Int32) (r : Int32) (hrun : fX6_letter t p1 = some r) :
    CtR l yX6_letter cX6_letter 2 (some .int) rX6_letter Z D zCl (cT k a t) [.ref (a 0), .int p1] (some (.int r)) := by
  refine CtR.of (by decide) (Nat.le_of_ble_eq_true rfl) ?_
  intro p e s m args below meth c hE hP hz ls hl
  obtain ⟨hx, hb, hr, hml, hown, hts, hlocks, hname⟩ := hE
  have hown : s.vm.findClass RX6 = some m.cls := hown
  have hK := hOK.1 _ _ _ hz
  have hl : lv_has ls 2 [(0, .ref (a 0)), (1, .int p1)] := hl
  unfold fX6_letter at hrun
  refine lv_aload_n hx hb dX6_letter_0 rfl (lv_at hl 0 rfl) ?_
  refine va_get (ci := 0) (v := .int (tw_base t)) (C := RX6) (T := TX6) (N := 22) hx hb hts in_X6 hown hK hP 0 rfl rfl 9 (by decide) (hts _ q1911) (fun _ h9 => h9) rfl dX6_letter_1 ?_
  refine lv_iconst (v := (-1 : Int32)) hx hb dX6_letter_4 (by decide) ?_
  refine lv_icmp_ne (tgt := 17) hx hb dX6_letter_5 (by decide) (fun c_1 => ?_) (fun c_1 => ?_)
  · have hrun := mif_n c_1 hrun
    refine lv_aload_n hx hb dX6_letter_17 rfl (lv_at hl 0 rfl) ?_
    refine va_get (ci := 0) (v := .ref (a 1)) (C := RX6) (T := TX6) (N := 22) hx hb hts in_X6 hown hK hP 0 rfl rfl 1 (by decide) (hts _ q1903) (fun _ h9 => h9) rfl dX6_letter_18 ?_
    refine lv_aload_n hx hb dX6_letter_21 rfl (lv_at hl 0 rfl) ?_
    refine va_get (ci := 0) (v := .int (tw_base t)) (C := RX6) (T := TX6) (N := 22) hx hb hts in_X6 hown hK hP 0 rfl rfl 9 (by decide) (hts _ q1911) (fun _ h9 => h9) rfl dX6_letter_22 ?_
    refine lv_iload_n hx hb dX6_letter_25 rfl (lv_at hl 1 rfl) ?_
    refine lv_iadd hx hb dX6_letter_26 ?_
    obtain ⟨hb_2, hrun⟩ := mck_s rfl hrun
    refine va_iald hx hb hK hP 1 0 rfl rfl hb_2 dX6_letter_27 ?_
    cases hrun
    exact retR_i hx hb hr hlocks rfl dX6_letter_28
  have hrun := mif_p c_1 hrun
  refine lv_aload_n hx hb dX6_letter_8 rfl (lv_at hl 0 rfl) ?_
  refine va_get (ci := 0) (v := .ref (a 5)) (C := RX6) (T := TX6) (N := 22) hx hb hts in_X6 hown hK hP 0 rfl rfl 7 (by decide) (hts _ q1909) (fun _ h9 => h9) rfl dX6_letter_9 ?_
  refine lv_iload_n hx hb dX6_letter_12 rfl (lv_at hl 1 rfl) ?_
  obtain ⟨hb_3, hrun⟩ := mck_s rfl hrun
  refine va_iald hx hb hK hP 5 0 rfl rfl hb_3 dX6_letter_13 ?_
  refine lv_goto (tgt := 28) hx hb dX6_letter_14 (by decide) ?_
  cases hrun
  exact retR_i hx hb hr hlocks rfl dX6_letter_28
def rX6_wrong : Room := { frames := 0, cells := 0, slots := 0, locals := 0 }
noncomputable def fX6_wrong (t : Tw) (p1 : Int32) : Option (Tw) :=
  if (tw_fault t) = (-1 : Int32) then
    mlt (tw_s_fault t p1) fun t_2 =>
    some t_2
  else
    some t
theorem kX6_wrong {R : Room} {s : State} {args : Array Value} {own : String} {idx mc ms : Nat} {rm : Room} (hts : ∀ w ∈ lw_all, w.before args s = true) (hl : Cond.methodLink own idx yX6_wrong ∈ lw_all) (hrc : rm.cells = mc) (hrs : rm.slots = ms) (hR : rm.frames + 1 ≤ R.frames ∧ 8 + (2 + 11) + rm.locals ≤ R.locals) : CallW R s args own RX6 idx yX6_wrong cX6_wrong 2 none (ws_ yX6_wrong cX6_wrong 2 none) rm mc ms 1 :=
  cwV 1 hts (lw_V hl q2010 qs54 q115 q2011) rfl hrc hrs (by decide +kernel) hR
set_option maxHeartbeats 4000000 in
set_option maxRecDepth 100000 in
theorem mtX6_wrong (l : Launch) (D : va_G) (k : Nat → ClassId) (a : Nat → Nat) (Z : zZ) (hOK : zOK D zCl (zTys k) Z) (t : Tw) (p1 : Int32) (tt : Tw) (hrun : fX6_wrong t p1 = some tt) :
    CtW l yX6_wrong cX6_wrong 2 none rX6_wrong Z D zCl (cT k a t) [.ref (a 0), .int p1] (fun r' w' => r' = none ∧ w' = cT k a tt) 0 0 := by
  refine CtW.of (by decide) (Nat.le_of_ble_eq_true rfl) ?_
  intro p e s m args below meth c A hE hA hP hD hS hz ls hl
  obtain ⟨hx, hb, hr, hml, hown, hts, hlocks, hname⟩ := hE
  have hown : s.vm.findClass RX6 = some m.cls := hown
  have hK := hOK.1 _ _ _ hz
  have hl : lv_has ls 2 [(0, .ref (a 0)), (1, .int p1)] := hl
  unfold fX6_wrong at hrun
  refine lv_aload_n hx hb dX6_wrong_0 rfl (lv_at hl 0 rfl) ?_
  refine va_get (ci := 0) (v := .int (tw_fault t)) (C := RX6) (T := TX6) (N := 22) hx hb hts in_X6 hown hK hP 0 rfl rfl 12 (by decide) (hts _ q1914) (fun _ h9 => h9) rfl dX6_wrong_1 ?_
  refine lv_iconst (v := (-1 : Int32)) hx hb dX6_wrong_4 (by decide) ?_
  refine lv_icmp_ne (tgt := 13) hx hb dX6_wrong_5 (by decide) (fun c_1 => ?_) (fun c_1 => ?_)
  · have hrun := mif_n c_1 hrun
    cases hrun
    exact retW_v hx hb hr hlocks hP hD hS ⟨rfl, rfl⟩ dX6_wrong_13
  have hrun := mif_p c_1 hrun
  refine lv_aload_n hx hb dX6_wrong_8 rfl (lv_at hl 0 rfl) ?_
  refine lv_iload_n hx hb dX6_wrong_9 rfl (lv_at hl 1 rfl) ?_
  refine va_put (ci := 0) (v := .int p1) (ty := tyX6 12) (C := RX6) (T := TX6) (N := 22) hx hb hts in_X6 tyX6 tyX6_ok nmX6 hown hK hP hD hS 0 rfl rfl 12 (by decide) (hts _ q1914) (fun _ h9 => h9) rfl (tyX6_ok 12 (by decide)) rfl rfl (Nat.le_of_ble_eq_true rfl) dX6_wrong_10 (fun H locs hP hD hS => ?_)
  have hP : va_P D zCl (cT k a (tw_s_fault t p1)) H := hP
  have hD : va_D A (cT k a (tw_s_fault t p1)) := hD
  obtain ⟨t_2, et_2⟩ : ∃ z : Tw, z = (tw_s_fault t p1) := ⟨_, rfl⟩
  rw [← et_2] at hP hD
  have hrun := mlt_s hrun t_2 et_2
  cases hrun
  exact retW_v hx hb hr hlocks hP hD hS ⟨rfl, rfl⟩ dX6_wrong_13
def rX6_put : Room := { frames := 0, cells := 0, slots := 0, locals := 0 }
noncomputable def fX6_put (t : Tw) (p1 : Int32) (p2 : Int32) (p3 : Int32) : Option (Tw) :=
  mck (((24 : Int32) + ((5 : Int32) * p1)) + p2) 704 <|
  mlt (tw_s_m t (upd (tw_m t) (Int32.toNatClampNeg (((24 : Int32) + ((5 : Int32) * p1)) + p2)) p3)) fun t_2 =>
  some t_2
theorem kX6_put {R : Room} {s : State} {args : Array Value} {own : String} {idx mc ms : Nat} {rm : Room} (hts : ∀ w ∈ lw_all, w.before args s = true) (hl : Cond.methodLink own idx yX6_put ∈ lw_all) (hrc : rm.cells = mc) (hrs : rm.slots = ms) (hR : rm.frames + 1 ≤ R.frames ∧ 8 + (4 + 11) + rm.locals ≤ R.locals) : CallW R s args own RX6 idx yX6_put cX6_put 4 none (ws_ yX6_put cX6_put 4 none) rm mc ms 3 :=
  cwV 3 hts (lw_V hl q2098 qs69 q115 q2099) rfl hrc hrs (by decide +kernel) hR
set_option maxHeartbeats 4000000 in
set_option maxRecDepth 100000 in
theorem mtX6_put (l : Launch) (D : va_G) (k : Nat → ClassId) (a : Nat → Nat) (Z : zZ) (hOK : zOK D zCl (zTys k) Z) (t : Tw) (p1 : Int32) (p2 : Int32) (p3 : Int32) (tt : Tw) (hrun : fX6_put t p1 p2 p3 = some tt) :
    CtW l yX6_put cX6_put 4 none rX6_put Z D zCl (cT k a t) [.ref (a 0), .int p1, .int p2, .int p3] (fun r' w' => r' = none ∧ w' = cT k a tt) 0 0 := by
  refine CtW.of (by decide) (Nat.le_of_ble_eq_true rfl) ?_
  intro p e s m args below meth c A hE hA hP hD hS hz ls hl
  obtain ⟨hx, hb, hr, hml, hown, hts, hlocks, hname⟩ := hE
  have hown : s.vm.findClass RX6 = some m.cls := hown
  have hK := hOK.1 _ _ _ hz
  have hl : lv_has ls 4 [(0, .ref (a 0)), (1, .int p1), (2, .int p2), (3, .int p3)] := hl
  unfold fX6_put at hrun
  refine lv_aload_n hx hb dX6_put_0 rfl (lv_at hl 0 rfl) ?_
  refine va_get (ci := 0) (v := .ref (a 1)) (C := RX6) (T := TX6) (N := 22) hx hb hts in_X6 hown hK hP 0 rfl rfl 1 (by decide) (hts _ q1903) (fun _ h9 => h9) rfl dX6_put_1 ?_
  refine lv_bipush (v := (24 : Int32)) hx hb dX6_put_4 (by decide) ?_
  refine lv_iconst (v := (5 : Int32)) hx hb dX6_put_6 (by decide) ?_
  refine lv_iload_n hx hb dX6_put_7 rfl (lv_at hl 1 rfl) ?_
  refine lv_imul hx hb dX6_put_8 ?_
  refine lv_iadd hx hb dX6_put_9 ?_
  refine lv_iload_n hx hb dX6_put_10 rfl (lv_at hl 2 rfl) ?_
  refine lv_iadd hx hb dX6_put_11 ?_
  refine lv_iload_n hx hb dX6_put_12 rfl (lv_at hl 3 rfl) ?_
  obtain ⟨hb_1, hrun⟩ := mck_s rfl hrun
  refine va_iast hx hb hK hP hD hS 1 0 rfl rfl hb_1 dX6_put_13 (fun H locs hP hD hS => ?_)
  have hP : va_P D zCl (cT k a (tw_s_m t (upd (tw_m t) (Int32.toNatClampNeg (((24 : Int32) + ((5 : Int32) * p1)) + p2)) p3))) H := hP
  have hD : va_D A (cT k a (tw_s_m t (upd (tw_m t) (Int32.toNatClampNeg (((24 : Int32) + ((5 : Int32) * p1)) + p2)) p3))) := hD
  obtain ⟨t_2, et_2⟩ : ∃ z : Tw, z = (tw_s_m t (upd (tw_m t) (Int32.toNatClampNeg (((24 : Int32) + ((5 : Int32) * p1)) + p2)) p3)) := ⟨_, rfl⟩
  rw [← et_2] at hP hD
  have hrun := mlt_s hrun t_2 et_2
  cases hrun
  exact retW_v hx hb hr hlocks hP hD hS ⟨rfl, rfl⟩ dX6_put_14
def rX6_comesBack : Room := { frames := 0, cells := 0, slots := 0, locals := 0 }
noncomputable def fX6_comesBack_L2 : Nat → Int32 → Tw → Option (Tw)
  | 0, _, _ => none
  | n + 1, x1_2, t_3 =>
    if (304 : Int32) ≤ x1_2 then
      some t_3
    else
      mck x1_2 304 <|
      mck x1_2 704 <|
      mlt (tw_s_m t_3 (upd (tw_m t_3) (Int32.toNatClampNeg x1_2) ((tw_aside t_3) (Int32.toNatClampNeg x1_2)))) fun t_7 =>
      fX6_comesBack_L2 n (x1_2 + (1 : Int32)) t_7
noncomputable def fX6_comesBack (t : Tw) : Option (Tw) :=
  fX6_comesBack_L2 mFU (0 : Int32) t
theorem kX6_comesBack {R : Room} {s : State} {args : Array Value} {own : String} {idx mc ms : Nat} {rm : Room} (hts : ∀ w ∈ lw_all, w.before args s = true) (hl : Cond.methodLink own idx yX6_comesBack ∈ lw_all) (hrc : rm.cells = mc) (hrs : rm.slots = ms) (hR : rm.frames + 1 ≤ R.frames ∧ 8 + (2 + 11) + rm.locals ≤ R.locals) : CallW R s args own RX6 idx yX6_comesBack cX6_comesBack 2 none (ws_ yX6_comesBack cX6_comesBack 2 none) rm mc ms 0 :=
  cwV 0 hts (lw_V hl q2118 qs72 q115 q2119) rfl hrc hrs (by decide +kernel) hR
set_option maxHeartbeats 4000000 in
set_option maxRecDepth 100000 in
theorem mtX6_comesBack (l : Launch) (D : va_G) (k : Nat → ClassId) (a : Nat → Nat) (Z : zZ) (hOK : zOK D zCl (zTys k) Z) (t : Tw) (tt : Tw) (hrun : fX6_comesBack t = some tt) :
    CtW l yX6_comesBack cX6_comesBack 2 none rX6_comesBack Z D zCl (cT k a t) [.ref (a 0)] (fun r' w' => r' = none ∧ w' = cT k a tt) 0 0 := by
  refine CtW.of (by decide) (Nat.le_of_ble_eq_true rfl) ?_
  intro p e s m args below meth c A hE hA hP hD hS hz ls hl
  obtain ⟨hx, hb, hr, hml, hown, hts, hlocks, hname⟩ := hE
  have hown : s.vm.findClass RX6 = some m.cls := hown
  have hK := hOK.1 _ _ _ hz
  have hl : lv_has ls 2 [(0, .ref (a 0))] := hl
  unfold fX6_comesBack at hrun
  refine lv_iconst (v := (0 : Int32)) hx hb dX6_comesBack_0 (by decide) ?_
  refine lv_istore_n (lv' := [(1, .int (0 : Int32)), (0, .ref (a 0))]) hx hb dX6_comesBack_1 rfl hl (by decide) rfl (fun ls hl => ?_)
  have hL_1 : ∀ n : Nat, ∀ (x1_2 : Int32) (t_3 : Tw), ∀ (H : Heap) (locs : List Loc), va_P D zCl (cT k a t_3) H → va_D A (cT k a t_3) → va_S A s.heap H locs → ∀ ls : Array Slot, lv_has ls 2 [(0, .ref (a 0)), (1, .int x1_2)] → fX6_comesBack_L2 n x1_2 t_3 = some tt → W p l e rX6_comesBack s m args below meth c H locs 0 0 (MQ below (QWr (fun r' w' => r' = none ∧ w' = cT k a tt) D zCl A) args s 0 0 A) (F0 m 2 ls []) := by
    intro n
    induction n with
    | zero =>
      intro x1_2 t_3 H locs hP hD hS ls hl hrun
      exact nomatch hrun
    | succ n ih =>
      intro x1_2 t_3 H locs hP hD hS ls hl hrun
      rw [fX6_comesBack_L2.eq_2] at hrun
      refine lv_iload_n hx hb dX6_comesBack_2 rfl (lv_at hl 1 rfl) ?_
      refine lv_sipush (v := (304 : Int32)) hx hb dX6_comesBack_3 (by decide) ?_
      refine lv_icmp_ge (tgt := 27) hx hb dX6_comesBack_6 (by decide) (fun c_4 => ?_) (fun c_4 => ?_)
      · have hrun := mif_p c_4 hrun
        cases hrun
        exact retW_v hx hb hr hlocks hP hD hS ⟨rfl, rfl⟩ dX6_comesBack_27
      have hrun := mif_n c_4 hrun
      refine lv_aload_n hx hb dX6_comesBack_9 rfl (lv_at hl 0 rfl) ?_
      refine va_get (ci := 0) (v := .ref (a 1)) (C := RX6) (T := TX6) (N := 22) hx hb hts in_X6 hown hK hP 0 rfl rfl 1 (by decide) (hts _ q1903) (fun _ h9 => h9) rfl dX6_comesBack_10 ?_
      refine lv_iload_n hx hb dX6_comesBack_13 rfl (lv_at hl 1 rfl) ?_
      refine lv_aload_n hx hb dX6_comesBack_14 rfl (lv_at hl 0 rfl) ?_
      refine va_get (ci := 0) (v := .ref (a 3)) (C := RX6) (T := TX6) (N := 22) hx hb hts in_X6 hown hK hP 0 rfl rfl 4 (by decide) (hts _ q1906) (fun _ h9 => h9) rfl dX6_comesBack_15 ?_
      refine lv_iload_n hx hb dX6_comesBack_18 rfl (lv_at hl 1 rfl) ?_
      obtain ⟨hb_5, hrun⟩ := mck_s rfl hrun
      refine va_iald hx hb hK hP 3 0 rfl rfl hb_5 dX6_comesBack_19 ?_
      obtain ⟨hb_6, hrun⟩ := mck_s rfl hrun
      refine va_iast hx hb hK hP hD hS 1 0 rfl rfl hb_6 dX6_comesBack_20 (fun H locs hP hD hS => ?_)
      have hP : va_P D zCl (cT k a (tw_s_m t_3 (upd (tw_m t_3) (Int32.toNatClampNeg x1_2) ((tw_aside t_3) (Int32.toNatClampNeg x1_2))))) H := hP
      have hD : va_D A (cT k a (tw_s_m t_3 (upd (tw_m t_3) (Int32.toNatClampNeg x1_2) ((tw_aside t_3) (Int32.toNatClampNeg x1_2))))) := hD
      obtain ⟨t_7, et_7⟩ : ∃ z : Tw, z = (tw_s_m t_3 (upd (tw_m t_3) (Int32.toNatClampNeg x1_2) ((tw_aside t_3) (Int32.toNatClampNeg x1_2)))) := ⟨_, rfl⟩
      rw [← et_7] at hP hD
      have hrun := mlt_s hrun t_7 et_7
      refine lv_iinc (v := (x1_2 + (1 : Int32))) (lv' := [(1, .int (x1_2 + (1 : Int32))), (0, .ref (a 0))]) hx hb dX6_comesBack_21 hl (k := 1) rfl rfl (by decide) rfl (fun ls hl => ?_)
      refine lv_goto (tgt := 2) hx hb dX6_comesBack_24 (by decide) ?_
      exact ih (x1_2 + (1 : Int32)) t_7 _ _ hP hD hS ls (lv_sub hl [1, 0] rfl) hrun
  exact hL_1 mFU (0 : Int32) t _ _ hP hD hS ls (lv_sub hl [1, 0] rfl) hrun
def rX6_fault : Room := { frames := 0, cells := 0, slots := 0, locals := 0 }
noncomputable def fX6_fault (t : Tw) : Option (Int32 × Tw) :=
  mlt (tw_s_thrown t (0 : Int32)) fun t_1 =>
  some ((tw_fault t_1), t_1)
theorem kX6_fault {R : Room} {s : State} {args : Array Value} {own : String} {idx mc ms : Nat} {rm : Room} (hts : ∀ w ∈ lw_all, w.before args s = true) (hl : Cond.methodLink own idx yX6_fault ∈ lw_all) (hrc : rm.cells = mc) (hrs : rm.slots = ms) (hR : rm.frames + 1 ≤ R.frames ∧ 8 + (1 + 11) + rm.locals ≤ R.locals) : CallW R s args own RX6 idx yX6_fault cX6_fault 1 (some .int) (ws_ yX6_fault cX6_fault 1 (some .int)) rm mc ms 0 :=
  cwV 0 hts (lw_V hl q2125 q2126 q115 q2127) rfl hrc hrs (by decide +kernel) hR
set_option maxHeartbeats 4000000 in
set_option maxRecDepth 100000 in
theorem mtX6_fault (l : Launch) (D : va_G) (k : Nat → ClassId) (a : Nat → Nat) (Z : zZ) (hOK : zOK D zCl (zTys k) Z) (t : Tw) (r : Int32) (tt : Tw) (hrun : fX6_fault t = some (r, tt)) :
    CtW l yX6_fault cX6_fault 1 (some .int) rX6_fault Z D zCl (cT k a t) [.ref (a 0)] (fun r' w' => r' = (some (.int r)) ∧ w' = cT k a tt) 0 0 := by
  refine CtW.of (by decide) (Nat.le_of_ble_eq_true rfl) ?_
  intro p e s m args below meth c A hE hA hP hD hS hz ls hl
  obtain ⟨hx, hb, hr, hml, hown, hts, hlocks, hname⟩ := hE
  have hown : s.vm.findClass RX6 = some m.cls := hown
  have hK := hOK.1 _ _ _ hz
  have hl : lv_has ls 1 [(0, .ref (a 0))] := hl
  unfold fX6_fault at hrun
  refine lv_aload_n hx hb dX6_fault_0 rfl (lv_at hl 0 rfl) ?_
  refine lv_iconst (v := (0 : Int32)) hx hb dX6_fault_1 (by decide) ?_
  refine va_put (ci := 0) (v := .int (0 : Int32)) (ty := tyX6 0) (C := RX6) (T := TX6) (N := 22) hx hb hts in_X6 tyX6 tyX6_ok nmX6 hown hK hP hD hS 0 rfl rfl 0 (by decide) (hts _ q1902) (fun _ h9 => h9) rfl (tyX6_ok 0 (by decide)) rfl rfl (Nat.le_of_ble_eq_true rfl) dX6_fault_2 (fun H locs hP hD hS => ?_)
  have hP : va_P D zCl (cT k a (tw_s_thrown t (0 : Int32))) H := hP
  have hD : va_D A (cT k a (tw_s_thrown t (0 : Int32))) := hD
  obtain ⟨t_1, et_1⟩ : ∃ z : Tw, z = (tw_s_thrown t (0 : Int32)) := ⟨_, rfl⟩
  rw [← et_1] at hP hD
  have hrun := mlt_s hrun t_1 et_1
  refine lv_aload_n hx hb dX6_fault_5 rfl (lv_at hl 0 rfl) ?_
  refine va_get (ci := 0) (v := .int (tw_fault t_1)) (C := RX6) (T := TX6) (N := 22) hx hb hts in_X6 hown hK hP 0 rfl rfl 12 (by decide) (hts _ q1914) (fun _ h9 => h9) rfl dX6_fault_6 ?_
  cases hrun
  exact retW_i hx hb hr hlocks hP hD hS ⟨rfl, rfl⟩ dX6_fault_9
def rX6_isGuest : Room := { frames := 1, cells := 0, slots := 0, locals := 22 }
noncomputable def fX6_isGuest (t : Tw) (p1 : Int32) : Option (Bool) :=
  mob (fX6_isIn p1 (0 : Int32) (((tw_m t) 3) - (1 : Int32))) fun r_2 =>
  some r_2
theorem kX6_isGuest {R : Room} {s : State} {args : Array Value} {own : String} {idx mc ms : Nat} {rm : Room} (hts : ∀ w ∈ lw_all, w.before args s = true) (hl : Cond.methodLink own idx yX6_isGuest ∈ lw_all) (hrc : rm.cells = mc) (hrs : rm.slots = ms) (hR : rm.frames + 1 ≤ R.frames ∧ 8 + (2 + 11) + rm.locals ≤ R.locals) : CallW R s args own RX6 idx yX6_isGuest cX6_isGuest 2 (some .boolean) (ws_ yX6_isGuest cX6_isGuest 2 (some .boolean)) rm mc ms 1 :=
  cwV 1 hts (lw_V hl q2134 qs73 q115 q2135) rfl hrc hrs (by decide +kernel) hR
set_option maxHeartbeats 4000000 in
set_option maxRecDepth 100000 in
theorem mtX6_isGuest (l : Launch) (D : va_G) (k : Nat → ClassId) (a : Nat → Nat) (Z : zZ) (hOK : zOK D zCl (zTys k) Z) (t : Tw) (p1 : Int32) (r : Bool) (hrun : fX6_isGuest t p1 = some r) :
    CtR l yX6_isGuest cX6_isGuest 2 (some .boolean) rX6_isGuest Z D zCl (cT k a t) [.ref (a 0), .int p1] (some (.int (bz r))) := by
  refine CtR.of (by decide) (Nat.le_of_ble_eq_true rfl) ?_
  intro p e s m args below meth c hE hP hz ls hl
  obtain ⟨hx, hb, hr, hml, hown, hts, hlocks, hname⟩ := hE
  have hown : s.vm.findClass RX6 = some m.cls := hown
  have hK := hOK.1 _ _ _ hz
  have hl : lv_has ls 2 [(0, .ref (a 0)), (1, .int p1)] := hl
  unfold fX6_isGuest at hrun
  refine lv_iload_n hx hb dX6_isGuest_0 rfl (lv_at hl 1 rfl) ?_
  refine lv_iconst (v := (0 : Int32)) hx hb dX6_isGuest_1 (by decide) ?_
  refine lv_aload_n hx hb dX6_isGuest_2 rfl (lv_at hl 0 rfl) ?_
  refine va_get (ci := 0) (v := .ref (a 1)) (C := RX6) (T := TX6) (N := 22) hx hb hts in_X6 hown hK hP 0 rfl rfl 1 (by decide) (hts _ q1903) (fun _ h9 => h9) rfl dX6_isGuest_3 ?_
  refine lv_iconst (v := (3 : Int32)) hx hb dX6_isGuest_6 (by decide) ?_
  refine va_ialdk (k := 3) hx hb hK hP 1 0 rfl rfl rfl (show ¬ _ from by decide) dX6_isGuest_7 ?_
  refine lv_iconst (v := (1 : Int32)) hx hb dX6_isGuest_8 (by decide) ?_
  refine lv_isub hx hb dX6_isGuest_9 ?_
  obtain ⟨r_2, hc_1, hrun⟩ := mob_s rfl hrun
  refine cRS (ws := []) (As := [.int p1, .int (0 : Int32), .int (((tw_m t) 3) - (1 : Int32))]) ⟨hx, hb, hml, hown, hts⟩ hOK hz va_S.rf zP0 (mtX6_isIn l D Z hOK _ _ _ _ hc_1) (kX6_isIn hts q1981 rfl rfl ⟨Nat.le_of_ble_eq_true rfl, Nat.le_of_ble_eq_true rfl⟩) rfl hl.1 rfl (lv_room (Nat.le_of_ble_eq_true rfl)) ⟨Nat.le_of_ble_eq_true rfl, Nat.le_of_ble_eq_true rfl⟩ dX6_isGuest_10 ?_
  cases hrun
  exact retR_z hx hb hr hlocks rfl dX6_isGuest_13
def rX6_of : Room := { frames := 0, cells := 0, slots := 0, locals := 0 }
noncomputable def fX6_of (t : Tw) (p1 : Int32) (p2 : Int32) : Option (Int32) :=
  mck (((24 : Int32) + ((5 : Int32) * p1)) + p2) 704 <|
  some ((tw_m t) (Int32.toNatClampNeg (((24 : Int32) + ((5 : Int32) * p1)) + p2)))
theorem kX6_of {R : Room} {s : State} {args : Array Value} {own : String} {idx mc ms : Nat} {rm : Room} (hts : ∀ w ∈ lw_all, w.before args s = true) (hl : Cond.methodLink own idx yX6_of ∈ lw_all) (hrc : rm.cells = mc) (hrs : rm.slots = ms) (hR : rm.frames + 1 ≤ R.frames ∧ 8 + (3 + 11) + rm.locals ≤ R.locals) : CallW R s args own RX6 idx yX6_of cX6_of 3 (some .int) (ws_ yX6_of cX6_of 3 (some .int)) rm mc ms 2 :=
  cwV 2 hts (lw_V hl q2138 qs74 q115 q2139) rfl hrc hrs (by decide +kernel) hR
set_option maxHeartbeats 4000000 in
set_option maxRecDepth 100000 in
theorem mtX6_of (l : Launch) (D : va_G) (k : Nat → ClassId) (a : Nat → Nat) (Z : zZ) (hOK : zOK D zCl (zTys k) Z) (t : Tw) (p1 : Int32) (p2 : Int32) (r : Int32) (hrun : fX6_of t p1 p2 = some r) :
    CtR l yX6_of cX6_of 3 (some .int) rX6_of Z D zCl (cT k a t) [.ref (a 0), .int p1, .int p2] (some (.int r)) := by
  refine CtR.of (by decide) (Nat.le_of_ble_eq_true rfl) ?_
  intro p e s m args below meth c hE hP hz ls hl
  obtain ⟨hx, hb, hr, hml, hown, hts, hlocks, hname⟩ := hE
  have hown : s.vm.findClass RX6 = some m.cls := hown
  have hK := hOK.1 _ _ _ hz
  have hl : lv_has ls 3 [(0, .ref (a 0)), (1, .int p1), (2, .int p2)] := hl
  unfold fX6_of at hrun
  refine lv_aload_n hx hb dX6_of_0 rfl (lv_at hl 0 rfl) ?_
  refine va_get (ci := 0) (v := .ref (a 1)) (C := RX6) (T := TX6) (N := 22) hx hb hts in_X6 hown hK hP 0 rfl rfl 1 (by decide) (hts _ q1903) (fun _ h9 => h9) rfl dX6_of_1 ?_
  refine lv_bipush (v := (24 : Int32)) hx hb dX6_of_4 (by decide) ?_
  refine lv_iconst (v := (5 : Int32)) hx hb dX6_of_6 (by decide) ?_
  refine lv_iload_n hx hb dX6_of_7 rfl (lv_at hl 1 rfl) ?_
  refine lv_imul hx hb dX6_of_8 ?_
  refine lv_iadd hx hb dX6_of_9 ?_
  refine lv_iload_n hx hb dX6_of_10 rfl (lv_at hl 2 rfl) ?_
  refine lv_iadd hx hb dX6_of_11 ?_
  obtain ⟨hb_1, hrun⟩ := mck_s rfl hrun
  refine va_iald hx hb hK hP 1 0 rfl rfl hb_1 dX6_of_12 ?_
  cases hrun
  exact retR_i hx hb hr hlocks rfl dX6_of_13
def rX6_risk : Room := { frames := 1, cells := 0, slots := 0, locals := 22 }
noncomputable def fX6_risk (t : Tw) (p1 : Int32) : Option (Int32) :=
  mob (fX6_of t p1 (2 : Int32)) fun r_2 =>
  if r_2 < (50 : Int32) then
    mob (fX6_of t p1 (1 : Int32)) fun r_5 =>
    some (r_5 / (2 : Int32))
  else
    mob (fX6_of t p1 (1 : Int32)) fun r_7 =>
    some r_7
theorem kX6_risk {R : Room} {s : State} {args : Array Value} {own : String} {idx mc ms : Nat} {rm : Room} (hts : ∀ w ∈ lw_all, w.before args s = true) (hl : Cond.methodLink own idx yX6_risk ∈ lw_all) (hrc : rm.cells = mc) (hrs : rm.slots = ms) (hR : rm.frames + 1 ≤ R.frames ∧ 8 + (2 + 11) + rm.locals ≤ R.locals) : CallW R s args own RX6 idx yX6_risk cX6_risk 2 (some .int) (ws_ yX6_risk cX6_risk 2 (some .int)) rm mc ms 1 :=
  cwV 1 hts (lw_V hl q2142 qs75 q115 q2143) rfl hrc hrs (by decide +kernel) hR
set_option maxHeartbeats 4000000 in
set_option maxRecDepth 100000 in
theorem mtX6_risk (l : Launch) (D : va_G) (k : Nat → ClassId) (a : Nat → Nat) (Z : zZ) (hOK : zOK D zCl (zTys k) Z) (t : Tw) (p1 : Int32) (r : Int32) (hrun : fX6_risk t p1 = some r) :
    CtR l yX6_risk cX6_risk 2 (some .int) rX6_risk Z D zCl (cT k a t) [.ref (a 0), .int p1] (some (.int r)) := by
  refine CtR.of (by decide) (Nat.le_of_ble_eq_true rfl) ?_
  intro p e s m args below meth c hE hP hz ls hl
  obtain ⟨hx, hb, hr, hml, hown, hts, hlocks, hname⟩ := hE
  have hown : s.vm.findClass RX6 = some m.cls := hown
  have hK := hOK.1 _ _ _ hz
  have hl : lv_has ls 2 [(0, .ref (a 0)), (1, .int p1)] := hl
  unfold fX6_risk at hrun
  refine lv_aload_n hx hb dX6_risk_0 rfl (lv_at hl 0 rfl) ?_
  refine lv_iload_n hx hb dX6_risk_1 rfl (lv_at hl 1 rfl) ?_
  refine lv_iconst (v := (2 : Int32)) hx hb dX6_risk_2 (by decide) ?_
  obtain ⟨r_2, hc_1, hrun⟩ := mob_s rfl hrun
  refine cRV (As := [.int p1, .int (2 : Int32)]) (ci := 0) ⟨hx, hb, hml, hown, hts⟩ hOK hz va_S.rf hP (mtX6_of l D k a Z hOK _ _ _ _ hc_1) (kX6_of hts q2136 rfl rfl ⟨Nat.le_of_ble_eq_true rfl, Nat.le_of_ble_eq_true rfl⟩) 0 rfl rfl rfl hl.1 rfl (lv_room (Nat.le_of_ble_eq_true rfl)) ⟨Nat.le_of_ble_eq_true rfl, Nat.le_of_ble_eq_true rfl⟩ dX6_risk_3 ?_
  refine lv_bipush (v := (50 : Int32)) hx hb dX6_risk_6 (by decide) ?_
  refine lv_icmp_lt (tgt := 20) hx hb dX6_risk_8 (by decide) (fun c_3 => ?_) (fun c_3 => ?_)
  · have hrun := mif_p c_3 hrun
    refine lv_aload_n hx hb dX6_risk_20 rfl (lv_at hl 0 rfl) ?_
    refine lv_iload_n hx hb dX6_risk_21 rfl (lv_at hl 1 rfl) ?_
    refine lv_iconst (v := (1 : Int32)) hx hb dX6_risk_22 (by decide) ?_
    obtain ⟨r_5, hc_4, hrun⟩ := mob_s rfl hrun
    refine cRV (As := [.int p1, .int (1 : Int32)]) (ci := 0) ⟨hx, hb, hml, hown, hts⟩ hOK hz va_S.rf hP (mtX6_of l D k a Z hOK _ _ _ _ hc_4) (kX6_of hts q2136 rfl rfl ⟨Nat.le_of_ble_eq_true rfl, Nat.le_of_ble_eq_true rfl⟩) 0 rfl rfl rfl hl.1 rfl (lv_room (Nat.le_of_ble_eq_true rfl)) ⟨Nat.le_of_ble_eq_true rfl, Nat.le_of_ble_eq_true rfl⟩ dX6_risk_23 ?_
    refine lv_iconst (v := (2 : Int32)) hx hb dX6_risk_26 (by decide) ?_
    refine lv_idiv hx hb dX6_risk_27 (by decide) ?_
    cases hrun
    exact retR_i hx hb hr hlocks rfl dX6_risk_28
  have hrun := mif_n c_3 hrun
  refine lv_aload_n hx hb dX6_risk_11 rfl (lv_at hl 0 rfl) ?_
  refine lv_iload_n hx hb dX6_risk_12 rfl (lv_at hl 1 rfl) ?_
  refine lv_iconst (v := (1 : Int32)) hx hb dX6_risk_13 (by decide) ?_
  obtain ⟨r_7, hc_6, hrun⟩ := mob_s rfl hrun
  refine cRV (As := [.int p1, .int (1 : Int32)]) (ci := 0) ⟨hx, hb, hml, hown, hts⟩ hOK hz va_S.rf hP (mtX6_of l D k a Z hOK _ _ _ _ hc_6) (kX6_of hts q2136 rfl rfl ⟨Nat.le_of_ble_eq_true rfl, Nat.le_of_ble_eq_true rfl⟩) 0 rfl rfl rfl hl.1 rfl (lv_room (Nat.le_of_ble_eq_true rfl)) ⟨Nat.le_of_ble_eq_true rfl, Nat.le_of_ble_eq_true rfl⟩ dX6_risk_14 ?_
  refine lv_goto (tgt := 28) hx hb dX6_risk_17 (by decide) ?_
  cases hrun
  exact retR_i hx hb hr hlocks rfl dX6_risk_28
