/-! walks: X6_lodge, X6_rests, X6_locked -/
def rX6_lodge : Room := { frames := 4, cells := 0, slots := 0, locals := 91 }
noncomputable def fX6_lodge_L216 (t_7 : Tw) (x4_17 : Int32) (x2_15 : Int32) (K_21 : Int32 → Option (Int32 × Tw)) : Nat → Int32 → Option (Int32 × Tw)
  | 0, _ => none
  | n + 1, x3_23 =>
    mob (fX6_by t_7 x4_17 x2_15 x3_23) fun r_25 =>
    mck (((256 : Int32) * x4_17) + x2_15) 2304 <|
    if r_25 = ((tw_fewest t_7) (Int32.toNatClampNeg (((256 : Int32) * x4_17) + x2_15))) then
      K_21 x3_23
    else
      fX6_lodge_L216 t_7 x4_17 x2_15 K_21 n (x3_23 + (1 : Int32))
noncomputable def fX6_lodge_L208 (p1 : Int32) (t_7 : Tw) : Nat → Int32 → Int32 → Int32 → Option (Int32 × Tw)
  | 0, _, _, _ => none
  | n + 1, x2_15, x3_16, x4_17 =>
    if p1 < x4_17 then
      some (x3_16, t_7)
    else
      mjn (fun (x3_20 : Int32) =>
      fX6_lodge_L208 p1 t_7 n (x2_15 ||| ((1 : Int32) <<< (x3_20 &&& (31 : Int32)))) x3_20 (x4_17 + (1 : Int32))) fun K_21 =>
      fX6_lodge_L216 t_7 x4_17 x2_15 K_21 mFU (0 : Int32)
noncomputable def fX6_lodge_L97 (K_47 : Int32 → Option (Int32 × Tw)) (t_39 : Tw) (x2_31 : Int32) (x3_38 : Int32) : Nat → Int32 → Int32 → Option (Int32 × Tw)
  | 0, _, _ => none
  | n + 1, x4_51, x5_52 =>
    if (8 : Int32) ≤ x5_52 then
      K_47 x4_51
    else
      if (tw_hereMany t_39) ≤ x2_31 then
        K_47 x4_51
      else
        mob (fX6_by t_39 x2_31 x3_38 x5_52) fun r_56 =>
        mob (fX6_lesser x4_51 r_56) fun r_58 =>
        fX6_lodge_L97 K_47 t_39 x2_31 x3_38 n r_58 (x5_52 + (1 : Int32))
noncomputable def fX6_lodge_L70 (K_36 : Tw → Option (Int32 × Tw)) (x2_31 : Int32) : Nat → Int32 → Tw → Option (Int32 × Tw)
  | 0, _, _ => none
  | n + 1, x3_38, t_39 =>
    if (256 : Int32) ≤ x3_38 then
      K_36 t_39
    else
      mjn (fun (y_43 : Int32) =>
      mjn (fun (x4_46 : Int32) =>
      mck (((256 : Int32) * x2_31) + x3_38) 2304 <|
      mlt (tw_s_fewest t_39 (upd (tw_fewest t_39) (Int32.toNatClampNeg (((256 : Int32) * x2_31) + x3_38)) x4_46)) fun t_49 =>
      fX6_lodge_L70 K_36 x2_31 n (x3_38 + (1 : Int32)) t_49) fun K_47 =>
      fX6_lodge_L97 K_47 t_39 x2_31 x3_38 mFU y_43 (0 : Int32)) fun K_44 =>
      if x2_31 = (tw_hereMany t_39) then
        K_44 (0 : Int32)
      else
        K_44 (2000000000 : Int32)
noncomputable def fX6_lodge_L64 (K_8 : Tw → Option (Int32 × Tw)) : Nat → Int32 → Tw → Option (Int32 × Tw)
  | 0, _, _ => none
  | n + 1, x2_31, t_32 =>
    if x2_31 < (0 : Int32) then
      K_8 t_32
    else
      mjn (fun (t_35 : Tw) =>
      fX6_lodge_L64 K_8 n (x2_31 + (-1 : Int32)) t_35) fun K_36 =>
      fX6_lodge_L70 K_36 x2_31 mFU (0 : Int32) t_32
noncomputable def fX6_lodge_L12 (K_5 : Tw → Option (Int32 × Tw)) : Nat → Int32 → Tw → Option (Int32 × Tw)
  | 0, _, _ => none
  | n + 1, x2_63, t_64 =>
    if ((tw_m t_64) 3) ≤ x2_63 then
      K_5 t_64
    else
      mob (fX6_isHere t_64 x2_63) fun r_67 =>
      if r_67 = true then
        mck (tw_hereMany t_64) 8 <|
        mlt (tw_s_here t_64 (upd (tw_here t_64) (Int32.toNatClampNeg (tw_hereMany t_64)) x2_63)) fun t_70 =>
        mlt (tw_s_hereMany t_70 ((tw_hereMany t_70) + (1 : Int32))) fun t_71 =>
        fX6_lodge_L12 K_5 n (x2_63 + (1 : Int32)) t_71
      else
        fX6_lodge_L12 K_5 n (x2_63 + (1 : Int32)) t_64
noncomputable def fX6_lodge (t : Tw) (p1 : Int32) : Option (Int32 × Tw) :=
  mlt (tw_s_thrown t (0 : Int32)) fun t_1 =>
  mlt (tw_s_hereMany t_1 (0 : Int32)) fun t_2 =>
  mjn (fun (t_4 : Tw) =>
  mjn (fun (t_7 : Tw) =>
  if ((tw_fewest t_7) 0) = (2000000000 : Int32) then
    some ((-1 : Int32), t_7)
  else
    if p1 = (-1 : Int32) then
      some (((tw_fewest t_7) 0), t_7)
    else
      mob (fX6_isIn p1 (0 : Int32) ((tw_hereMany t_7) - (1 : Int32))) fun r_12 =>
      if r_12 = true then
        fX6_lodge_L208 p1 t_7 mFU (0 : Int32) (0 : Int32) (0 : Int32)
      else
        some ((-1 : Int32), t_7)) fun K_8 =>
  fX6_lodge_L64 K_8 mFU (tw_hereMany t_4) t_4) fun K_5 =>
  fX6_lodge_L12 K_5 mFU (0 : Int32) t_2
theorem kX6_lodge {R : Room} {s : State} {args : Array Value} {own : String} {idx mc ms : Nat} {rm : Room} (hts : ∀ w ∈ lw_all, w.before args s = true) (hl : Cond.methodLink own idx yX6_lodge ∈ lw_all) (hrc : rm.cells = mc) (hrs : rm.slots = ms) (hR : rm.frames + 1 ≤ R.frames ∧ 8 + (6 + 11) + rm.locals ≤ R.locals) : CallW R s args own RX6 idx yX6_lodge cX6_lodge 6 (some .int) (ws_ yX6_lodge cX6_lodge 6 (some .int)) rm mc ms 1 :=
  cwV 1 hts (lw_V hl q2347 q2348 q115 q2349) rfl hrc hrs (by decide +kernel) hR
set_option maxHeartbeats 4000000 in
set_option maxRecDepth 100000 in
theorem mtX6_lodge (l : Launch) (D : va_G) (k : Nat → ClassId) (a : Nat → Nat) (Z : zZ) (hOK : zOK D zCl (zTys k) Z) (t : Tw) (p1 : Int32) (r : Int32) (tt : Tw) (hrun : fX6_lodge t p1 = some (r, tt)) :
    CtW l yX6_lodge cX6_lodge 6 (some .int) rX6_lodge Z D zCl (cT k a t) [.ref (a 0), .int p1] (fun r' w' => r' = (some (.int r)) ∧ w' = cT k a tt) 0 0 := by
  refine CtW.of (by decide) (Nat.le_of_ble_eq_true rfl) ?_
  intro p e s m args below meth c A hE hA hP hD hS hz ls hl
  obtain ⟨hx, hb, hr, hml, hown, hts, hlocks, hname⟩ := hE
  have hown : s.vm.findClass RX6 = some m.cls := hown
  have hK := hOK.1 _ _ _ hz
  have hl : lv_has ls 6 [(0, .ref (a 0)), (1, .int p1)] := hl
  unfold fX6_lodge at hrun
  refine lv_aload_n hx hb dX6_lodge_0 rfl (lv_at hl 0 rfl) ?_
  refine lv_iconst (v := (0 : Int32)) hx hb dX6_lodge_1 (by decide) ?_
  refine va_put (ci := 0) (v := .int (0 : Int32)) (ty := tyX6 0) (C := RX6) (T := TX6) (N := 22) hx hb hts in_X6 tyX6 tyX6_ok nmX6 hown hK hP hD hS 0 rfl rfl 0 (by decide) (hts _ q1902) (fun _ h9 => h9) rfl (tyX6_ok 0 (by decide)) rfl rfl (Nat.le_of_ble_eq_true rfl) dX6_lodge_2 (fun H locs hP hD hS => ?_)
  have hP : va_P D zCl (cT k a (tw_s_thrown t (0 : Int32))) H := hP
  have hD : va_D A (cT k a (tw_s_thrown t (0 : Int32))) := hD
  obtain ⟨t_1, et_1⟩ : ∃ z : Tw, z = (tw_s_thrown t (0 : Int32)) := ⟨_, rfl⟩
  rw [← et_1] at hP hD
  have hrun := mlt_s hrun t_1 et_1
  refine lv_aload_n hx hb dX6_lodge_5 rfl (lv_at hl 0 rfl) ?_
  refine lv_iconst (v := (0 : Int32)) hx hb dX6_lodge_6 (by decide) ?_
  refine va_put (ci := 0) (v := .int (0 : Int32)) (ty := tyX6 19) (C := RX6) (T := TX6) (N := 22) hx hb hts in_X6 tyX6 tyX6_ok nmX6 hown hK hP hD hS 0 rfl rfl 19 (by decide) (hts _ q1921) (fun _ h9 => h9) rfl (tyX6_ok 19 (by decide)) rfl rfl (Nat.le_of_ble_eq_true rfl) dX6_lodge_7 (fun H locs hP hD hS => ?_)
  have hP : va_P D zCl (cT k a (tw_s_hereMany t_1 (0 : Int32))) H := hP
  have hD : va_D A (cT k a (tw_s_hereMany t_1 (0 : Int32))) := hD
  obtain ⟨t_2, et_2⟩ : ∃ z : Tw, z = (tw_s_hereMany t_1 (0 : Int32)) := ⟨_, rfl⟩
  rw [← et_2] at hP hD
  have hrun := mlt_s hrun t_2 et_2
  refine lv_iconst (v := (0 : Int32)) hx hb dX6_lodge_10 (by decide) ?_
  refine lv_istore_n (lv' := [(2, .int (0 : Int32)), (0, .ref (a 0)), (1, .int p1)]) hx hb dX6_lodge_11 rfl hl (by decide) rfl (fun ls hl => ?_)
  obtain ⟨K_5, hK_5, hrun⟩ := mjn_s hrun
  have hj_3 : ∀ (t_4 : Tw), ∀ (H : Heap) (locs : List Loc), va_P D zCl (cT k a t_4) H → va_D A (cT k a t_4) → va_S A s.heap H locs → ∀ ls : Array Slot, lv_has ls 6 [(0, .ref (a 0)), (1, .int p1)] → K_5 t_4 = some (r, tt) → W p l e rX6_lodge s m args below meth c H locs 0 0 (MQ below (QWr (fun r' w' => r' = (some (.int r)) ∧ w' = cT k a tt) D zCl A) args s 0 0 A) (F0 m 59 ls []) := by
    intro t_4 H locs hP hD hS ls hl hrun
    rw [hK_5] at hrun
    refine lv_aload_n hx hb dX6_lodge_59 rfl (lv_at hl 0 rfl) ?_
    refine va_get (ci := 0) (v := .int (tw_hereMany t_4)) (C := RX6) (T := TX6) (N := 22) hx hb hts in_X6 hown hK hP 0 rfl rfl 19 (by decide) (hts _ q1921) (fun _ h9 => h9) rfl dX6_lodge_60 ?_
    refine lv_istore_n (lv' := [(2, .int (tw_hereMany t_4)), (0, .ref (a 0)), (1, .int p1)]) hx hb dX6_lodge_63 rfl hl (by decide) rfl (fun ls hl => ?_)
    obtain ⟨K_8, hK_8, hrun⟩ := mjn_s hrun
    have hj_6 : ∀ (t_7 : Tw), ∀ (H : Heap) (locs : List Loc), va_P D zCl (cT k a t_7) H → va_D A (cT k a t_7) → va_S A s.heap H locs → ∀ ls : Array Slot, lv_has ls 6 [(0, .ref (a 0)), (1, .int p1)] → K_8 t_7 = some (r, tt) → W p l e rX6_lodge s m args below meth c H locs 0 0 (MQ below (QWr (fun r' w' => r' = (some (.int r)) ∧ w' = cT k a tt) D zCl A) args s 0 0 A) (F0 m 159 ls []) := by
      intro t_7 H locs hP hD hS ls hl hrun
      rw [hK_8] at hrun
      refine lv_aload_n hx hb dX6_lodge_159 rfl (lv_at hl 0 rfl) ?_
      refine va_get (ci := 0) (v := .ref (a 8)) (C := RX6) (T := TX6) (N := 22) hx hb hts in_X6 hown hK hP 0 rfl rfl 20 (by decide) (hts _ q1922) (fun _ h9 => h9) rfl dX6_lodge_160 ?_
      refine lv_iconst (v := (0 : Int32)) hx hb dX6_lodge_163 (by decide) ?_
      refine va_ialdk (k := 0) hx hb hK hP 8 0 rfl rfl rfl (show ¬ _ from by decide) dX6_lodge_164 ?_
      refine lv_ldcw (v := (2000000000 : Int32)) hx hb hown (hts _ q2350) dX6_lodge_165 ?_
      refine lv_icmp_ne (tgt := 173) hx hb dX6_lodge_168 (by decide) (fun c_9 => ?_) (fun c_9 => ?_)
      · have hrun := mif_n c_9 hrun
        refine lv_iload_n hx hb dX6_lodge_173 rfl (lv_at hl 1 rfl) ?_
        refine lv_iconst (v := (-1 : Int32)) hx hb dX6_lodge_174 (by decide) ?_
        refine lv_icmp_ne (tgt := 185) hx hb dX6_lodge_175 (by decide) (fun c_10 => ?_) (fun c_10 => ?_)
        · have hrun := mif_n c_10 hrun
          refine lv_iload_n hx hb dX6_lodge_185 rfl (lv_at hl 1 rfl) ?_
          refine lv_iconst (v := (0 : Int32)) hx hb dX6_lodge_186 (by decide) ?_
          refine lv_aload_n hx hb dX6_lodge_187 rfl (lv_at hl 0 rfl) ?_
          refine va_get (ci := 0) (v := .int (tw_hereMany t_7)) (C := RX6) (T := TX6) (N := 22) hx hb hts in_X6 hown hK hP 0 rfl rfl 19 (by decide) (hts _ q1921) (fun _ h9 => h9) rfl dX6_lodge_188 ?_
          refine lv_iconst (v := (1 : Int32)) hx hb dX6_lodge_191 (by decide) ?_
          refine lv_isub hx hb dX6_lodge_192 ?_
          obtain ⟨r_12, hc_11, hrun⟩ := mob_s rfl hrun
          refine cRS (ws := []) (As := [.int p1, .int (0 : Int32), .int ((tw_hereMany t_7) - (1 : Int32))]) ⟨hx, hb, hml, hown, hts⟩ hOK hz hS zP0 (mtX6_isIn l D Z hOK _ _ _ _ hc_11) (kX6_isIn hts q1981 rfl rfl ⟨Nat.le_of_ble_eq_true rfl, Nat.le_of_ble_eq_true rfl⟩) rfl hl.1 rfl (lv_room (Nat.le_of_ble_eq_true rfl)) ⟨Nat.le_of_ble_eq_true rfl, Nat.le_of_ble_eq_true rfl⟩ dX6_lodge_193 ?_
          refine lv_if_ne (tgt := 201) hx hb dX6_lodge_196 (by decide) (fun c_13 => ?_) (fun c_13 => ?_)
          · have hrun := mif_p (bz_nz c_13) hrun
            refine lv_iconst (v := (0 : Int32)) hx hb dX6_lodge_201 (by decide) ?_
            refine lv_istore_n (lv' := [(2, .int (0 : Int32)), (0, .ref (a 0)), (1, .int p1)]) hx hb dX6_lodge_202 rfl hl (by decide) rfl (fun ls hl => ?_)
            refine lv_iconst (v := (0 : Int32)) hx hb dX6_lodge_203 (by decide) ?_
            refine lv_istore_n (lv' := [(3, .int (0 : Int32)), (2, .int (0 : Int32)), (0, .ref (a 0)), (1, .int p1)]) hx hb dX6_lodge_204 rfl hl (by decide) rfl (fun ls hl => ?_)
            refine lv_iconst (v := (0 : Int32)) hx hb dX6_lodge_205 (by decide) ?_
            refine lv_istore (lv' := [(4, .int (0 : Int32)), (3, .int (0 : Int32)), (2, .int (0 : Int32)), (0, .ref (a 0)), (1, .int p1)]) hx hb dX6_lodge_206 hl (by decide) rfl (fun ls hl => ?_)
            have hL_14 : ∀ n : Nat, ∀ (x2_15 : Int32) (x3_16 : Int32) (x4_17 : Int32), ∀ (H : Heap) (locs : List Loc), va_P D zCl (cT k a t_7) H → va_D A (cT k a t_7) → va_S A s.heap H locs → ∀ ls : Array Slot, lv_has ls 6 [(0, .ref (a 0)), (1, .int p1), (2, .int x2_15), (3, .int x3_16), (4, .int x4_17)] → fX6_lodge_L208 p1 t_7 n x2_15 x3_16 x4_17 = some (r, tt) → W p l e rX6_lodge s m args below meth c H locs 0 0 (MQ below (QWr (fun r' w' => r' = (some (.int r)) ∧ w' = cT k a tt) D zCl A) args s 0 0 A) (F0 m 208 ls []) := by
              intro n
              induction n with
              | zero =>
                intro x2_15 x3_16 x4_17 H locs hP hD hS ls hl hrun
                exact nomatch hrun
              | succ n ih =>
                intro x2_15 x3_16 x4_17 H locs hP hD hS ls hl hrun
                rw [fX6_lodge_L208.eq_2] at hrun
                refine lv_iload hx hb dX6_lodge_208 (lv_at hl 4 rfl) ?_
                refine lv_iload_n hx hb dX6_lodge_210 rfl (lv_at hl 1 rfl) ?_
                refine lv_icmp_gt (tgt := 258) hx hb dX6_lodge_211 (by decide) (fun c_18 => ?_) (fun c_18 => ?_)
                · have hrun := mif_p c_18 hrun
                  refine lv_iload_n hx hb dX6_lodge_258 rfl (lv_at hl 3 rfl) ?_
                  cases hrun
                  exact retW_i hx hb hr hlocks hP hD hS ⟨rfl, rfl⟩ dX6_lodge_259
                have hrun := mif_n c_18 hrun
                refine lv_iconst (v := (0 : Int32)) hx hb dX6_lodge_214 (by decide) ?_
                refine lv_istore_n (lv' := [(3, .int (0 : Int32)), (0, .ref (a 0)), (1, .int p1), (2, .int x2_15), (4, .int x4_17)]) hx hb dX6_lodge_215 rfl hl (by decide) rfl (fun ls hl => ?_)
                obtain ⟨K_21, hK_21, hrun⟩ := mjn_s hrun
                have hj_19 : ∀ (x3_20 : Int32), ∀ (H : Heap) (locs : List Loc), va_P D zCl (cT k a t_7) H → va_D A (cT k a t_7) → va_S A s.heap H locs → ∀ ls : Array Slot, lv_has ls 6 [(0, .ref (a 0)), (1, .int p1), (2, .int x2_15), (3, .int x3_20), (4, .int x4_17)] → K_21 x3_20 = some (r, tt) → W p l e rX6_lodge s m args below meth c H locs 0 0 (MQ below (QWr (fun r' w' => r' = (some (.int r)) ∧ w' = cT k a tt) D zCl A) args s 0 0 A) (F0 m 246 ls []) := by
                  intro x3_20 H locs hP hD hS ls hl hrun
                  rw [hK_21] at hrun
                  refine lv_iload_n hx hb dX6_lodge_246 rfl (lv_at hl 2 rfl) ?_
                  refine lv_iconst (v := (1 : Int32)) hx hb dX6_lodge_247 (by decide) ?_
                  refine lv_iload_n hx hb dX6_lodge_248 rfl (lv_at hl 3 rfl) ?_
                  refine lv_ishl hx hb dX6_lodge_249 ?_
                  refine lv_ior hx hb dX6_lodge_250 ?_
                  refine lv_istore_n (lv' := [(2, .int (x2_15 ||| ((1 : Int32) <<< (x3_20 &&& (31 : Int32))))), (0, .ref (a 0)), (1, .int p1), (3, .int x3_20), (4, .int x4_17)]) hx hb dX6_lodge_251 rfl hl (by decide) rfl (fun ls hl => ?_)
                  refine lv_iinc (v := (x4_17 + (1 : Int32))) (lv' := [(4, .int (x4_17 + (1 : Int32))), (2, .int (x2_15 ||| ((1 : Int32) <<< (x3_20 &&& (31 : Int32))))), (0, .ref (a 0)), (1, .int p1), (3, .int x3_20)]) hx hb dX6_lodge_252 hl (k := 4) rfl rfl (by decide) rfl (fun ls hl => ?_)
                  refine lv_goto (tgt := 208) hx hb dX6_lodge_255 (by decide) ?_
                  exact ih (x2_15 ||| ((1 : Int32) <<< (x3_20 &&& (31 : Int32)))) x3_20 (x4_17 + (1 : Int32)) _ _ hP hD hS ls (lv_sub hl [2, 3, 1, 4, 0] rfl) hrun
                have hL_22 : ∀ n : Nat, ∀ (x3_23 : Int32), ∀ (H : Heap) (locs : List Loc), va_P D zCl (cT k a t_7) H → va_D A (cT k a t_7) → va_S A s.heap H locs → ∀ ls : Array Slot, lv_has ls 6 [(0, .ref (a 0)), (1, .int p1), (2, .int x2_15), (3, .int x3_23), (4, .int x4_17)] → fX6_lodge_L216 t_7 x4_17 x2_15 K_21 n x3_23 = some (r, tt) → W p l e rX6_lodge s m args below meth c H locs 0 0 (MQ below (QWr (fun r' w' => r' = (some (.int r)) ∧ w' = cT k a tt) D zCl A) args s 0 0 A) (F0 m 216 ls []) := by
                  intro n
                  induction n with
                  | zero =>
                    intro x3_23 H locs hP hD hS ls hl hrun
                    exact nomatch hrun
                  | succ n ih =>
                    intro x3_23 H locs hP hD hS ls hl hrun
                    rw [fX6_lodge_L216.eq_2] at hrun
                    refine lv_aload_n hx hb dX6_lodge_216 rfl (lv_at hl 0 rfl) ?_
                    refine lv_iload hx hb dX6_lodge_217 (lv_at hl 4 rfl) ?_
                    refine lv_iload_n hx hb dX6_lodge_219 rfl (lv_at hl 2 rfl) ?_
                    refine lv_iload_n hx hb dX6_lodge_220 rfl (lv_at hl 3 rfl) ?_
                    obtain ⟨r_25, hc_24, hrun⟩ := mob_s rfl hrun
                    refine cRV (As := [.int x4_17, .int x2_15, .int x3_23]) (ci := 0) ⟨hx, hb, hml, hown, hts⟩ hOK hz hS hP (mtX6_by l D k a Z hOK _ _ _ _ _ hc_24) (kX6_by hts q2351 rfl rfl ⟨Nat.le_of_ble_eq_true rfl, Nat.le_of_ble_eq_true rfl⟩) 0 rfl rfl rfl hl.1 rfl (lv_room (Nat.le_of_ble_eq_true rfl)) ⟨Nat.le_of_ble_eq_true rfl, Nat.le_of_ble_eq_true rfl⟩ dX6_lodge_221 ?_
                    refine lv_aload_n hx hb dX6_lodge_224 rfl (lv_at hl 0 rfl) ?_
                    refine va_get (ci := 0) (v := .ref (a 8)) (C := RX6) (T := TX6) (N := 22) hx hb hts in_X6 hown hK hP 0 rfl rfl 20 (by decide) (hts _ q1922) (fun _ h9 => h9) rfl dX6_lodge_225 ?_
                    refine lv_sipush (v := (256 : Int32)) hx hb dX6_lodge_228 (by decide) ?_
                    refine lv_iload hx hb dX6_lodge_231 (lv_at hl 4 rfl) ?_
                    refine lv_imul hx hb dX6_lodge_233 ?_
                    refine lv_iload_n hx hb dX6_lodge_234 rfl (lv_at hl 2 rfl) ?_
                    refine lv_iadd hx hb dX6_lodge_235 ?_
                    obtain ⟨hb_26, hrun⟩ := mck_s rfl hrun
                    refine va_iald hx hb hK hP 8 0 rfl rfl hb_26 dX6_lodge_236 ?_
                    refine lv_icmp_eq (tgt := 246) hx hb dX6_lodge_237 (by decide) (fun c_27 => ?_) (fun c_27 => ?_)
                    · have hrun := mif_p c_27 hrun
                      exact hj_19 x3_23 _ _ hP hD hS ls (lv_sub hl [0, 1, 2, 3, 4] rfl) hrun
                    have hrun := mif_n c_27 hrun
                    refine lv_iinc (v := (x3_23 + (1 : Int32))) (lv' := [(3, .int (x3_23 + (1 : Int32))), (0, .ref (a 0)), (1, .int p1), (2, .int x2_15), (4, .int x4_17)]) hx hb dX6_lodge_240 hl (k := 3) rfl rfl (by decide) rfl (fun ls hl => ?_)
                    refine lv_goto (tgt := 216) hx hb dX6_lodge_243 (by decide) ?_
                    exact ih (x3_23 + (1 : Int32)) _ _ hP hD hS ls (lv_sub hl [1, 2, 3, 0, 4] rfl) hrun
                exact hL_22 mFU (0 : Int32) _ _ hP hD hS ls (lv_sub hl [1, 2, 3, 0, 4] rfl) hrun
            exact hL_14 mFU (0 : Int32) (0 : Int32) (0 : Int32) _ _ hP hD hS ls (lv_sub hl [3, 4, 2, 1, 0] rfl) hrun
          have hrun := mif_n (bz_z c_13) hrun
          refine lv_iconst (v := (-1 : Int32)) hx hb dX6_lodge_199 (by decide) ?_
          cases hrun
          exact retW_i hx hb hr hlocks hP hD hS ⟨rfl, rfl⟩ dX6_lodge_200
        have hrun := mif_p c_10 hrun
        refine lv_aload_n hx hb dX6_lodge_178 rfl (lv_at hl 0 rfl) ?_
        refine va_get (ci := 0) (v := .ref (a 8)) (C := RX6) (T := TX6) (N := 22) hx hb hts in_X6 hown hK hP 0 rfl rfl 20 (by decide) (hts _ q1922) (fun _ h9 => h9) rfl dX6_lodge_179 ?_
        refine lv_iconst (v := (0 : Int32)) hx hb dX6_lodge_182 (by decide) ?_
        refine va_ialdk (k := 0) hx hb hK hP 8 0 rfl rfl rfl (show ¬ _ from by decide) dX6_lodge_183 ?_
        cases hrun
        exact retW_i hx hb hr hlocks hP hD hS ⟨rfl, rfl⟩ dX6_lodge_184
      have hrun := mif_p c_9 hrun
      refine lv_iconst (v := (-1 : Int32)) hx hb dX6_lodge_171 (by decide) ?_
      cases hrun
      exact retW_i hx hb hr hlocks hP hD hS ⟨rfl, rfl⟩ dX6_lodge_172
    have hL_30 : ∀ n : Nat, ∀ (x2_31 : Int32) (t_32 : Tw), ∀ (H : Heap) (locs : List Loc), va_P D zCl (cT k a t_32) H → va_D A (cT k a t_32) → va_S A s.heap H locs → ∀ ls : Array Slot, lv_has ls 6 [(0, .ref (a 0)), (1, .int p1), (2, .int x2_31)] → fX6_lodge_L64 K_8 n x2_31 t_32 = some (r, tt) → W p l e rX6_lodge s m args below meth c H locs 0 0 (MQ below (QWr (fun r' w' => r' = (some (.int r)) ∧ w' = cT k a tt) D zCl A) args s 0 0 A) (F0 m 64 ls []) := by
      intro n
      induction n with
      | zero =>
        intro x2_31 t_32 H locs hP hD hS ls hl hrun
        exact nomatch hrun
      | succ n ih =>
        intro x2_31 t_32 H locs hP hD hS ls hl hrun
        rw [fX6_lodge_L64.eq_2] at hrun
        refine lv_iload_n hx hb dX6_lodge_64 rfl (lv_at hl 2 rfl) ?_
        refine lv_if_lt (tgt := 159) hx hb dX6_lodge_65 (by decide) (fun c_33 => ?_) (fun c_33 => ?_)
        · have hrun := mif_p c_33 hrun
          exact hj_6 t_32 _ _ hP hD hS ls (lv_sub hl [0, 1] rfl) hrun
        have hrun := mif_n c_33 hrun
        refine lv_iconst (v := (0 : Int32)) hx hb dX6_lodge_68 (by decide) ?_
        refine lv_istore_n (lv' := [(3, .int (0 : Int32)), (0, .ref (a 0)), (1, .int p1), (2, .int x2_31)]) hx hb dX6_lodge_69 rfl hl (by decide) rfl (fun ls hl => ?_)
        obtain ⟨K_36, hK_36, hrun⟩ := mjn_s hrun
        have hj_34 : ∀ (t_35 : Tw), ∀ (H : Heap) (locs : List Loc), va_P D zCl (cT k a t_35) H → va_D A (cT k a t_35) → va_S A s.heap H locs → ∀ ls : Array Slot, lv_has ls 6 [(0, .ref (a 0)), (1, .int p1), (2, .int x2_31)] → K_36 t_35 = some (r, tt) → W p l e rX6_lodge s m args below meth c H locs 0 0 (MQ below (QWr (fun r' w' => r' = (some (.int r)) ∧ w' = cT k a tt) D zCl A) args s 0 0 A) (F0 m 153 ls []) := by
          intro t_35 H locs hP hD hS ls hl hrun
          rw [hK_36] at hrun
          refine lv_iinc (v := (x2_31 + (-1 : Int32))) (lv' := [(2, .int (x2_31 + (-1 : Int32))), (0, .ref (a 0)), (1, .int p1)]) hx hb dX6_lodge_153 hl (k := 2) rfl rfl (by decide) rfl (fun ls hl => ?_)
          refine lv_goto (tgt := 64) hx hb dX6_lodge_156 (by decide) ?_
          exact ih (x2_31 + (-1 : Int32)) t_35 _ _ hP hD hS ls (lv_sub hl [1, 2, 0] rfl) hrun
        have hL_37 : ∀ n : Nat, ∀ (x3_38 : Int32) (t_39 : Tw), ∀ (H : Heap) (locs : List Loc), va_P D zCl (cT k a t_39) H → va_D A (cT k a t_39) → va_S A s.heap H locs → ∀ ls : Array Slot, lv_has ls 6 [(0, .ref (a 0)), (1, .int p1), (2, .int x2_31), (3, .int x3_38)] → fX6_lodge_L70 K_36 x2_31 n x3_38 t_39 = some (r, tt) → W p l e rX6_lodge s m args below meth c H locs 0 0 (MQ below (QWr (fun r' w' => r' = (some (.int r)) ∧ w' = cT k a tt) D zCl A) args s 0 0 A) (F0 m 70 ls []) := by
          intro n
          induction n with
          | zero =>
            intro x3_38 t_39 H locs hP hD hS ls hl hrun
            exact nomatch hrun
          | succ n ih =>
            intro x3_38 t_39 H locs hP hD hS ls hl hrun
            rw [fX6_lodge_L70.eq_2] at hrun
            refine lv_iload_n hx hb dX6_lodge_70 rfl (lv_at hl 3 rfl) ?_
            refine lv_sipush (v := (256 : Int32)) hx hb dX6_lodge_71 (by decide) ?_
            refine lv_icmp_ge (tgt := 153) hx hb dX6_lodge_74 (by decide) (fun c_40 => ?_) (fun c_40 => ?_)
            · have hrun := mif_p c_40 hrun
              exact hj_34 t_39 _ _ hP hD hS ls (lv_sub hl [0, 1, 2] rfl) hrun
            have hrun := mif_n c_40 hrun
            refine lv_iload_n hx hb dX6_lodge_77 rfl (lv_at hl 2 rfl) ?_
            refine lv_aload_n hx hb dX6_lodge_78 rfl (lv_at hl 0 rfl) ?_
            refine va_get (ci := 0) (v := .int (tw_hereMany t_39)) (C := RX6) (T := TX6) (N := 22) hx hb hts in_X6 hown hK hP 0 rfl rfl 19 (by decide) (hts _ q1921) (fun _ h9 => h9) rfl dX6_lodge_79 ?_
            obtain ⟨K_44, hK_44, hrun⟩ := mjn_s hrun
            have hj_42 : ∀ (y_43 : Int32), ∀ (H : Heap) (locs : List Loc), va_P D zCl (cT k a t_39) H → va_D A (cT k a t_39) → va_S A s.heap H locs → ∀ ls : Array Slot, lv_has ls 6 [(0, .ref (a 0)), (1, .int p1), (2, .int x2_31), (3, .int x3_38)] → K_44 y_43 = some (r, tt) → W p l e rX6_lodge s m args below meth c H locs 0 0 (MQ below (QWr (fun r' w' => r' = (some (.int r)) ∧ w' = cT k a tt) D zCl A) args s 0 0 A) (F0 m 92 ls [.int y_43]) := by
              intro y_43 H locs hP hD hS ls hl hrun
              rw [hK_44] at hrun
              refine lv_istore (lv' := [(4, .int y_43), (0, .ref (a 0)), (1, .int p1), (2, .int x2_31), (3, .int x3_38)]) hx hb dX6_lodge_92 hl (by decide) rfl (fun ls hl => ?_)
              refine lv_iconst (v := (0 : Int32)) hx hb dX6_lodge_94 (by decide) ?_
              refine lv_istore (lv' := [(5, .int (0 : Int32)), (4, .int y_43), (0, .ref (a 0)), (1, .int p1), (2, .int x2_31), (3, .int x3_38)]) hx hb dX6_lodge_95 hl (by decide) rfl (fun ls hl => ?_)
              obtain ⟨K_47, hK_47, hrun⟩ := mjn_s hrun
              have hj_45 : ∀ (x4_46 : Int32), ∀ (H : Heap) (locs : List Loc), va_P D zCl (cT k a t_39) H → va_D A (cT k a t_39) → va_S A s.heap H locs → ∀ ls : Array Slot, lv_has ls 6 [(0, .ref (a 0)), (1, .int p1), (2, .int x2_31), (3, .int x3_38), (4, .int x4_46)] → K_47 x4_46 = some (r, tt) → W p l e rX6_lodge s m args below meth c H locs 0 0 (MQ below (QWr (fun r' w' => r' = (some (.int r)) ∧ w' = cT k a tt) D zCl A) args s 0 0 A) (F0 m 133 ls []) := by
                intro x4_46 H locs hP hD hS ls hl hrun
                rw [hK_47] at hrun
                refine lv_aload_n hx hb dX6_lodge_133 rfl (lv_at hl 0 rfl) ?_
                refine va_get (ci := 0) (v := .ref (a 8)) (C := RX6) (T := TX6) (N := 22) hx hb hts in_X6 hown hK hP 0 rfl rfl 20 (by decide) (hts _ q1922) (fun _ h9 => h9) rfl dX6_lodge_134 ?_
                refine lv_sipush (v := (256 : Int32)) hx hb dX6_lodge_137 (by decide) ?_
                refine lv_iload_n hx hb dX6_lodge_140 rfl (lv_at hl 2 rfl) ?_
                refine lv_imul hx hb dX6_lodge_141 ?_
                refine lv_iload_n hx hb dX6_lodge_142 rfl (lv_at hl 3 rfl) ?_
                refine lv_iadd hx hb dX6_lodge_143 ?_
                refine lv_iload hx hb dX6_lodge_144 (lv_at hl 4 rfl) ?_
                obtain ⟨hb_48, hrun⟩ := mck_s rfl hrun
                refine va_iast hx hb hK hP hD hS 8 0 rfl rfl hb_48 dX6_lodge_146 (fun H locs hP hD hS => ?_)
                have hP : va_P D zCl (cT k a (tw_s_fewest t_39 (upd (tw_fewest t_39) (Int32.toNatClampNeg (((256 : Int32) * x2_31) + x3_38)) x4_46))) H := hP
                have hD : va_D A (cT k a (tw_s_fewest t_39 (upd (tw_fewest t_39) (Int32.toNatClampNeg (((256 : Int32) * x2_31) + x3_38)) x4_46))) := hD
                obtain ⟨t_49, et_49⟩ : ∃ z : Tw, z = (tw_s_fewest t_39 (upd (tw_fewest t_39) (Int32.toNatClampNeg (((256 : Int32) * x2_31) + x3_38)) x4_46)) := ⟨_, rfl⟩
                rw [← et_49] at hP hD
                have hrun := mlt_s hrun t_49 et_49
                refine lv_iinc (v := (x3_38 + (1 : Int32))) (lv' := [(3, .int (x3_38 + (1 : Int32))), (0, .ref (a 0)), (1, .int p1), (2, .int x2_31), (4, .int x4_46)]) hx hb dX6_lodge_147 hl (k := 3) rfl rfl (by decide) rfl (fun ls hl => ?_)
                refine lv_goto (tgt := 70) hx hb dX6_lodge_150 (by decide) ?_
                exact ih (x3_38 + (1 : Int32)) t_49 _ _ hP hD hS ls (lv_sub hl [1, 2, 3, 0] rfl) hrun
              have hL_50 : ∀ n : Nat, ∀ (x4_51 : Int32) (x5_52 : Int32), ∀ (H : Heap) (locs : List Loc), va_P D zCl (cT k a t_39) H → va_D A (cT k a t_39) → va_S A s.heap H locs → ∀ ls : Array Slot, lv_has ls 6 [(0, .ref (a 0)), (1, .int p1), (2, .int x2_31), (3, .int x3_38), (4, .int x4_51), (5, .int x5_52)] → fX6_lodge_L97 K_47 t_39 x2_31 x3_38 n x4_51 x5_52 = some (r, tt) → W p l e rX6_lodge s m args below meth c H locs 0 0 (MQ below (QWr (fun r' w' => r' = (some (.int r)) ∧ w' = cT k a tt) D zCl A) args s 0 0 A) (F0 m 97 ls []) := by
                intro n
                induction n with
                | zero =>
                  intro x4_51 x5_52 H locs hP hD hS ls hl hrun
                  exact nomatch hrun
                | succ n ih =>
                  intro x4_51 x5_52 H locs hP hD hS ls hl hrun
                  rw [fX6_lodge_L97.eq_2] at hrun
                  refine lv_iload hx hb dX6_lodge_97 (lv_at hl 5 rfl) ?_
                  refine lv_bipush (v := (8 : Int32)) hx hb dX6_lodge_99 (by decide) ?_
                  refine lv_icmp_ge (tgt := 133) hx hb dX6_lodge_101 (by decide) (fun c_53 => ?_) (fun c_53 => ?_)
                  · have hrun := mif_p c_53 hrun
                    exact hj_45 x4_51 _ _ hP hD hS ls (lv_sub hl [0, 1, 2, 3, 4] rfl) hrun
                  have hrun := mif_n c_53 hrun
                  refine lv_iload_n hx hb dX6_lodge_104 rfl (lv_at hl 2 rfl) ?_
                  refine lv_aload_n hx hb dX6_lodge_105 rfl (lv_at hl 0 rfl) ?_
                  refine va_get (ci := 0) (v := .int (tw_hereMany t_39)) (C := RX6) (T := TX6) (N := 22) hx hb hts in_X6 hown hK hP 0 rfl rfl 19 (by decide) (hts _ q1921) (fun _ h9 => h9) rfl dX6_lodge_106 ?_
                  refine lv_icmp_ge (tgt := 133) hx hb dX6_lodge_109 (by decide) (fun c_54 => ?_) (fun c_54 => ?_)
                  · have hrun := mif_p c_54 hrun
                    exact hj_45 x4_51 _ _ hP hD hS ls (lv_sub hl [0, 1, 2, 3, 4] rfl) hrun
                  have hrun := mif_n c_54 hrun
                  refine lv_iload hx hb dX6_lodge_112 (lv_at hl 4 rfl) ?_
                  refine lv_aload_n hx hb dX6_lodge_114 rfl (lv_at hl 0 rfl) ?_
                  refine lv_iload_n hx hb dX6_lodge_115 rfl (lv_at hl 2 rfl) ?_
                  refine lv_iload_n hx hb dX6_lodge_116 rfl (lv_at hl 3 rfl) ?_
                  refine lv_iload hx hb dX6_lodge_117 (lv_at hl 5 rfl) ?_
                  obtain ⟨r_56, hc_55, hrun⟩ := mob_s rfl hrun
                  refine cRV (As := [.int x2_31, .int x3_38, .int x5_52]) (ci := 0) ⟨hx, hb, hml, hown, hts⟩ hOK hz hS hP (mtX6_by l D k a Z hOK _ _ _ _ _ hc_55) (kX6_by hts q2351 rfl rfl ⟨Nat.le_of_ble_eq_true rfl, Nat.le_of_ble_eq_true rfl⟩) 0 rfl rfl rfl hl.1 rfl (lv_room (Nat.le_of_ble_eq_true rfl)) ⟨Nat.le_of_ble_eq_true rfl, Nat.le_of_ble_eq_true rfl⟩ dX6_lodge_119 ?_
                  obtain ⟨r_58, hc_57, hrun⟩ := mob_s rfl hrun
                  refine cRS (ws := []) (As := [.int x4_51, .int r_56]) ⟨hx, hb, hml, hown, hts⟩ hOK hz hS zP0 (mtX6_lesser l D Z hOK _ _ _ hc_57) (kX6_lesser hts q2245 rfl rfl ⟨Nat.le_of_ble_eq_true rfl, Nat.le_of_ble_eq_true rfl⟩) rfl hl.1 rfl (lv_room (Nat.le_of_ble_eq_true rfl)) ⟨Nat.le_of_ble_eq_true rfl, Nat.le_of_ble_eq_true rfl⟩ dX6_lodge_122 ?_
                  refine lv_istore (lv' := [(4, .int r_58), (0, .ref (a 0)), (1, .int p1), (2, .int x2_31), (3, .int x3_38), (5, .int x5_52)]) hx hb dX6_lodge_125 hl (by decide) rfl (fun ls hl => ?_)
                  refine lv_iinc (v := (x5_52 + (1 : Int32))) (lv' := [(5, .int (x5_52 + (1 : Int32))), (4, .int r_58), (0, .ref (a 0)), (1, .int p1), (2, .int x2_31), (3, .int x3_38)]) hx hb dX6_lodge_127 hl (k := 5) rfl rfl (by decide) rfl (fun ls hl => ?_)
                  refine lv_goto (tgt := 97) hx hb dX6_lodge_130 (by decide) ?_
                  exact ih r_58 (x5_52 + (1 : Int32)) _ _ hP hD hS ls (lv_sub hl [2, 3, 4, 5, 1, 0] rfl) hrun
              exact hL_50 mFU y_43 (0 : Int32) _ _ hP hD hS ls (lv_sub hl [2, 3, 4, 5, 1, 0] rfl) hrun
            refine lv_icmp_ne (tgt := 89) hx hb dX6_lodge_82 (by decide) (fun c_41 => ?_) (fun c_41 => ?_)
            · have hrun := mif_n c_41 hrun
              refine lv_ldcw (v := (2000000000 : Int32)) hx hb hown (hts _ q2350) dX6_lodge_89 ?_
              exact hj_42 (2000000000 : Int32) _ _ hP hD hS ls (lv_sub hl [0, 1, 2, 3] rfl) hrun
            have hrun := mif_p c_41 hrun
            refine lv_iconst (v := (0 : Int32)) hx hb dX6_lodge_85 (by decide) ?_
            refine lv_goto (tgt := 92) hx hb dX6_lodge_86 (by decide) ?_
            exact hj_42 (0 : Int32) _ _ hP hD hS ls (lv_sub hl [0, 1, 2, 3] rfl) hrun
        exact hL_37 mFU (0 : Int32) t_32 _ _ hP hD hS ls (lv_sub hl [1, 2, 3, 0] rfl) hrun
    exact hL_30 mFU (tw_hereMany t_4) t_4 _ _ hP hD hS ls (lv_sub hl [1, 2, 0] rfl) hrun
  have hL_62 : ∀ n : Nat, ∀ (x2_63 : Int32) (t_64 : Tw), ∀ (H : Heap) (locs : List Loc), va_P D zCl (cT k a t_64) H → va_D A (cT k a t_64) → va_S A s.heap H locs → ∀ ls : Array Slot, lv_has ls 6 [(0, .ref (a 0)), (1, .int p1), (2, .int x2_63)] → fX6_lodge_L12 K_5 n x2_63 t_64 = some (r, tt) → W p l e rX6_lodge s m args below meth c H locs 0 0 (MQ below (QWr (fun r' w' => r' = (some (.int r)) ∧ w' = cT k a tt) D zCl A) args s 0 0 A) (F0 m 12 ls []) := by
    intro n
    induction n with
    | zero =>
      intro x2_63 t_64 H locs hP hD hS ls hl hrun
      exact nomatch hrun
    | succ n ih =>
      intro x2_63 t_64 H locs hP hD hS ls hl hrun
      rw [fX6_lodge_L12.eq_2] at hrun
      refine lv_iload_n hx hb dX6_lodge_12 rfl (lv_at hl 2 rfl) ?_
      refine lv_aload_n hx hb dX6_lodge_13 rfl (lv_at hl 0 rfl) ?_
      refine va_get (ci := 0) (v := .ref (a 1)) (C := RX6) (T := TX6) (N := 22) hx hb hts in_X6 hown hK hP 0 rfl rfl 1 (by decide) (hts _ q1903) (fun _ h9 => h9) rfl dX6_lodge_14 ?_
      refine lv_iconst (v := (3 : Int32)) hx hb dX6_lodge_17 (by decide) ?_
      refine va_ialdk (k := 3) hx hb hK hP 1 0 rfl rfl rfl (show ¬ _ from by decide) dX6_lodge_18 ?_
      refine lv_icmp_ge (tgt := 59) hx hb dX6_lodge_19 (by decide) (fun c_65 => ?_) (fun c_65 => ?_)
      · have hrun := mif_p c_65 hrun
        exact hj_3 t_64 _ _ hP hD hS ls (lv_sub hl [0, 1] rfl) hrun
      have hrun := mif_n c_65 hrun
      refine lv_aload_n hx hb dX6_lodge_22 rfl (lv_at hl 0 rfl) ?_
      refine lv_iload_n hx hb dX6_lodge_23 rfl (lv_at hl 2 rfl) ?_
      obtain ⟨r_67, hc_66, hrun⟩ := mob_s rfl hrun
      refine cRV (As := [.int x2_63]) (ci := 0) ⟨hx, hb, hml, hown, hts⟩ hOK hz hS hP (mtX6_isHere l D k a Z hOK _ _ _ hc_66) (kX6_isHere hts q2155 rfl rfl ⟨Nat.le_of_ble_eq_true rfl, Nat.le_of_ble_eq_true rfl⟩) 0 rfl rfl rfl hl.1 rfl (lv_room (Nat.le_of_ble_eq_true rfl)) ⟨Nat.le_of_ble_eq_true rfl, Nat.le_of_ble_eq_true rfl⟩ dX6_lodge_24 ?_
      refine lv_if_ne (tgt := 33) hx hb dX6_lodge_27 (by decide) (fun c_68 => ?_) (fun c_68 => ?_)
      · have hrun := mif_p (bz_nz c_68) hrun
        refine lv_aload_n hx hb dX6_lodge_33 rfl (lv_at hl 0 rfl) ?_
        refine va_get (ci := 0) (v := .ref (a 7)) (C := RX6) (T := TX6) (N := 22) hx hb hts in_X6 hown hK hP 0 rfl rfl 18 (by decide) (hts _ q1920) (fun _ h9 => h9) rfl dX6_lodge_34 ?_
        refine lv_aload_n hx hb dX6_lodge_37 rfl (lv_at hl 0 rfl) ?_
        refine va_get (ci := 0) (v := .int (tw_hereMany t_64)) (C := RX6) (T := TX6) (N := 22) hx hb hts in_X6 hown hK hP 0 rfl rfl 19 (by decide) (hts _ q1921) (fun _ h9 => h9) rfl dX6_lodge_38 ?_
        refine lv_iload_n hx hb dX6_lodge_41 rfl (lv_at hl 2 rfl) ?_
        obtain ⟨hb_69, hrun⟩ := mck_s rfl hrun
        refine va_iast hx hb hK hP hD hS 7 0 rfl rfl hb_69 dX6_lodge_42 (fun H locs hP hD hS => ?_)
        have hP : va_P D zCl (cT k a (tw_s_here t_64 (upd (tw_here t_64) (Int32.toNatClampNeg (tw_hereMany t_64)) x2_63))) H := hP
        have hD : va_D A (cT k a (tw_s_here t_64 (upd (tw_here t_64) (Int32.toNatClampNeg (tw_hereMany t_64)) x2_63))) := hD
        obtain ⟨t_70, et_70⟩ : ∃ z : Tw, z = (tw_s_here t_64 (upd (tw_here t_64) (Int32.toNatClampNeg (tw_hereMany t_64)) x2_63)) := ⟨_, rfl⟩
        rw [← et_70] at hP hD
        have hrun := mlt_s hrun t_70 et_70
        refine lv_aload_n hx hb dX6_lodge_43 rfl (lv_at hl 0 rfl) ?_
        refine lv_dup hx hb dX6_lodge_44 rfl ?_
        refine va_get (ci := 0) (v := .int (tw_hereMany t_70)) (C := RX6) (T := TX6) (N := 22) hx hb hts in_X6 hown hK hP 0 rfl rfl 19 (by decide) (hts _ q1921) (fun _ h9 => h9) rfl dX6_lodge_45 ?_
        refine lv_iconst (v := (1 : Int32)) hx hb dX6_lodge_48 (by decide) ?_
        refine lv_iadd hx hb dX6_lodge_49 ?_
        refine va_put (ci := 0) (v := .int ((tw_hereMany t_70) + (1 : Int32))) (ty := tyX6 19) (C := RX6) (T := TX6) (N := 22) hx hb hts in_X6 tyX6 tyX6_ok nmX6 hown hK hP hD hS 0 rfl rfl 19 (by decide) (hts _ q1921) (fun _ h9 => h9) rfl (tyX6_ok 19 (by decide)) rfl rfl (Nat.le_of_ble_eq_true rfl) dX6_lodge_50 (fun H locs hP hD hS => ?_)
        have hP : va_P D zCl (cT k a (tw_s_hereMany t_70 ((tw_hereMany t_70) + (1 : Int32)))) H := hP
        have hD : va_D A (cT k a (tw_s_hereMany t_70 ((tw_hereMany t_70) + (1 : Int32)))) := hD
        obtain ⟨t_71, et_71⟩ : ∃ z : Tw, z = (tw_s_hereMany t_70 ((tw_hereMany t_70) + (1 : Int32))) := ⟨_, rfl⟩
        rw [← et_71] at hP hD
        have hrun := mlt_s hrun t_71 et_71
        refine lv_iinc (v := (x2_63 + (1 : Int32))) (lv' := [(2, .int (x2_63 + (1 : Int32))), (0, .ref (a 0)), (1, .int p1)]) hx hb dX6_lodge_53 hl (k := 2) rfl rfl (by decide) rfl (fun ls hl => ?_)
        refine lv_goto (tgt := 12) hx hb dX6_lodge_56 (by decide) ?_
        exact ih (x2_63 + (1 : Int32)) t_71 _ _ hP hD hS ls (lv_sub hl [1, 2, 0] rfl) hrun
      have hrun := mif_n (bz_z c_68) hrun
      refine lv_goto (tgt := 53) hx hb dX6_lodge_30 (by decide) ?_
      refine lv_iinc (v := (x2_63 + (1 : Int32))) (lv' := [(2, .int (x2_63 + (1 : Int32))), (0, .ref (a 0)), (1, .int p1)]) hx hb dX6_lodge_53 hl (k := 2) rfl rfl (by decide) rfl (fun ls hl => ?_)
      refine lv_goto (tgt := 12) hx hb dX6_lodge_56 (by decide) ?_
      exact ih (x2_63 + (1 : Int32)) t_64 _ _ hP hD hS ls (lv_sub hl [1, 2, 0] rfl) hrun
  exact hL_62 mFU (0 : Int32) t_2 _ _ hP hD hS ls (lv_sub hl [1, 2, 0] rfl) hrun
def rX6_rests : Room := { frames := 5, cells := 0, slots := 0, locals := 112 }
noncomputable def fX6_rests_L46 (t_7 : Tw) (r_12 : Bool) (p1 : Int32) : Nat → Int32 → Int32 → Option (Int32 × Tw)
  | 0, _, _ => none
  | n + 1, x3_14, x4_15 =>
    if (4 : Int32) ≤ x4_15 then
      some (x3_14, t_7)
    else
      mob (fX6_hostHas t_7 r_12 ((1 : Int32) - (x4_15 / (2 : Int32))) (mrm x4_15 (2 : Int32))) fun r_18 =>
      mob (fX6_hostHas t_7 r_12 (x4_15 / (2 : Int32)) (mrm x4_15 (2 : Int32))) fun r_20 =>
      if r_20 < r_18 then
        fX6_rests_L46 t_7 r_12 p1 n x3_14 (x4_15 + (1 : Int32))
      else
        mob (fX6_guestHas t_7 p1 r_12 (x4_15 / (2 : Int32)) ((1 : Int32) - (mrm x4_15 (2 : Int32)))) fun r_23 =>
        mob (fX6_guestHas t_7 p1 r_12 (x4_15 / (2 : Int32)) (mrm x4_15 (2 : Int32))) fun r_25 =>
        if r_25 < r_23 then
          fX6_rests_L46 t_7 r_12 p1 n x3_14 (x4_15 + (1 : Int32))
        else
          fX6_rests_L46 t_7 r_12 p1 n (x3_14 ||| ((1 : Int32) <<< (x4_15 &&& (31 : Int32)))) (x4_15 + (1 : Int32))
noncomputable def fX6_rests (t : Tw) (p1 : Int32) : Option (Int32 × Tw) :=
  mob (fX6_isGuest t p1) fun r_2 =>
  mjn (fun (y_5 : Bool) =>
  mlt (tw_s_thrown t (bz y_5)) fun t_7 =>
  if (tw_thrown t_7) ≤ (0 : Int32) then
    mob (fX6_watchers t_7 ((tw_m t_7) 4)) fun r_10 =>
    mob (fX6_isOf r_10 p1) fun r_12 =>
    fX6_rests_L46 t_7 r_12 p1 mFU (0 : Int32) (0 : Int32)
  else
    some ((0 : Int32), t_7)) fun K_6 =>
  if r_2 = true then
    K_6 false
  else
    K_6 true
theorem kX6_rests {R : Room} {s : State} {args : Array Value} {own : String} {idx mc ms : Nat} {rm : Room} (hts : ∀ w ∈ lw_all, w.before args s = true) (hl : Cond.methodLink own idx yX6_rests ∈ lw_all) (hrc : rm.cells = mc) (hrs : rm.slots = ms) (hR : rm.frames + 1 ≤ R.frames ∧ 8 + (7 + 11) + rm.locals ≤ R.locals) : CallW R s args own RX6 idx yX6_rests cX6_rests 7 (some .int) (ws_ yX6_rests cX6_rests 7 (some .int)) rm mc ms 1 :=
  cwV 1 hts (lw_V hl q2356 q2357 q115 q2358) rfl hrc hrs (by decide +kernel) hR
set_option maxHeartbeats 4000000 in
set_option maxRecDepth 100000 in
theorem mtX6_rests (l : Launch) (D : va_G) (k : Nat → ClassId) (a : Nat → Nat) (Z : zZ) (hOK : zOK D zCl (zTys k) Z) (t : Tw) (p1 : Int32) (r : Int32) (tt : Tw) (hrun : fX6_rests t p1 = some (r, tt)) :
    CtW l yX6_rests cX6_rests 7 (some .int) rX6_rests Z D zCl (cT k a t) [.ref (a 0), .int p1] (fun r' w' => r' = (some (.int r)) ∧ w' = cT k a tt) 0 0 := by
  refine CtW.of (by decide) (Nat.le_of_ble_eq_true rfl) ?_
  intro p e s m args below meth c A hE hA hP hD hS hz ls hl
  obtain ⟨hx, hb, hr, hml, hown, hts, hlocks, hname⟩ := hE
  have hown : s.vm.findClass RX6 = some m.cls := hown
  have hK := hOK.1 _ _ _ hz
  have hl : lv_has ls 7 [(0, .ref (a 0)), (1, .int p1)] := hl
  unfold fX6_rests at hrun
  refine lv_aload_n hx hb dX6_rests_0 rfl (lv_at hl 0 rfl) ?_
  refine lv_aload_n hx hb dX6_rests_1 rfl (lv_at hl 0 rfl) ?_
  refine lv_iload_n hx hb dX6_rests_2 rfl (lv_at hl 1 rfl) ?_
  obtain ⟨r_2, hc_1, hrun⟩ := mob_s rfl hrun
  refine cRV (As := [.int p1]) (ci := 0) ⟨hx, hb, hml, hown, hts⟩ hOK hz hS hP (mtX6_isGuest l D k a Z hOK _ _ _ hc_1) (kX6_isGuest hts q2132 rfl rfl ⟨Nat.le_of_ble_eq_true rfl, Nat.le_of_ble_eq_true rfl⟩) 0 rfl rfl rfl hl.1 rfl (lv_room (Nat.le_of_ble_eq_true rfl)) ⟨Nat.le_of_ble_eq_true rfl, Nat.le_of_ble_eq_true rfl⟩ dX6_rests_3 ?_
  obtain ⟨K_6, hK_6, hrun⟩ := mjn_s hrun
  have hj_4 : ∀ (y_5 : Bool), ∀ (H : Heap) (locs : List Loc), va_P D zCl (cT k a t) H → va_D A (cT k a t) → va_S A s.heap H locs → ∀ ls : Array Slot, lv_has ls 7 [(0, .ref (a 0)), (1, .int p1)] → K_6 y_5 = some (r, tt) → W p l e rX6_rests s m args below meth c H locs 0 0 (MQ below (QWr (fun r' w' => r' = (some (.int r)) ∧ w' = cT k a tt) D zCl A) args s 0 0 A) (F0 m 14 ls [.int (bz y_5), .ref (a 0)]) := by
    intro y_5 H locs hP hD hS ls hl hrun
    rw [hK_6] at hrun
    refine va_put (ci := 0) (v := .int (bz y_5)) (ty := tyX6 0) (C := RX6) (T := TX6) (N := 22) hx hb hts in_X6 tyX6 tyX6_ok nmX6 hown hK hP hD hS 0 rfl rfl 0 (by decide) (hts _ q1902) (fun _ h9 => h9) rfl (tyX6_ok 0 (by decide)) rfl rfl (Nat.le_of_ble_eq_true rfl) dX6_rests_14 (fun H locs hP hD hS => ?_)
    have hP : va_P D zCl (cT k a (tw_s_thrown t (bz y_5))) H := hP
    have hD : va_D A (cT k a (tw_s_thrown t (bz y_5))) := hD
    obtain ⟨t_7, et_7⟩ : ∃ z : Tw, z = (tw_s_thrown t (bz y_5)) := ⟨_, rfl⟩
    rw [← et_7] at hP hD
    have hrun := mlt_s hrun t_7 et_7
    refine lv_aload_n hx hb dX6_rests_17 rfl (lv_at hl 0 rfl) ?_
    refine va_get (ci := 0) (v := .int (tw_thrown t_7)) (C := RX6) (T := TX6) (N := 22) hx hb hts in_X6 hown hK hP 0 rfl rfl 0 (by decide) (hts _ q1902) (fun _ h9 => h9) rfl dX6_rests_18 ?_
    refine lv_if_le (tgt := 26) hx hb dX6_rests_21 (by decide) (fun c_8 => ?_) (fun c_8 => ?_)
    · have hrun := mif_p c_8 hrun
      refine lv_aload_n hx hb dX6_rests_26 rfl (lv_at hl 0 rfl) ?_
      refine lv_aload_n hx hb dX6_rests_27 rfl (lv_at hl 0 rfl) ?_
      refine va_get (ci := 0) (v := .ref (a 1)) (C := RX6) (T := TX6) (N := 22) hx hb hts in_X6 hown hK hP 0 rfl rfl 1 (by decide) (hts _ q1903) (fun _ h9 => h9) rfl dX6_rests_28 ?_
      refine lv_iconst (v := (4 : Int32)) hx hb dX6_rests_31 (by decide) ?_
      refine va_ialdk (k := 4) hx hb hK hP 1 0 rfl rfl rfl (show ¬ _ from by decide) dX6_rests_32 ?_
      obtain ⟨r_10, hc_9, hrun⟩ := mob_s rfl hrun
      refine cRV (As := [.int ((tw_m t_7) 4)]) (ci := 0) ⟨hx, hb, hml, hown, hts⟩ hOK hz hS hP (mtX6_watchers l D k a Z hOK _ _ _ hc_9) (kX6_watchers hts q2193 rfl rfl ⟨Nat.le_of_ble_eq_true rfl, Nat.le_of_ble_eq_true rfl⟩) 0 rfl rfl rfl hl.1 rfl (lv_room (Nat.le_of_ble_eq_true rfl)) ⟨Nat.le_of_ble_eq_true rfl, Nat.le_of_ble_eq_true rfl⟩ dX6_rests_33 ?_
      refine lv_iload_n hx hb dX6_rests_36 rfl (lv_at hl 1 rfl) ?_
      obtain ⟨r_12, hc_11, hrun⟩ := mob_s rfl hrun
      refine cRS (ws := []) (As := [.int r_10, .int p1]) ⟨hx, hb, hml, hown, hts⟩ hOK hz hS zP0 (mtX6_isOf l D Z hOK _ _ _ hc_11) (kX6_isOf hts q2175 rfl rfl ⟨Nat.le_of_ble_eq_true rfl, Nat.le_of_ble_eq_true rfl⟩) rfl hl.1 rfl (lv_room (Nat.le_of_ble_eq_true rfl)) ⟨Nat.le_of_ble_eq_true rfl, Nat.le_of_ble_eq_true rfl⟩ dX6_rests_37 ?_
      refine lv_istore_n (lv' := [(2, .int (bz r_12)), (0, .ref (a 0)), (1, .int p1)]) hx hb dX6_rests_40 rfl hl (by decide) rfl (fun ls hl => ?_)
      refine lv_iconst (v := (0 : Int32)) hx hb dX6_rests_41 (by decide) ?_
      refine lv_istore_n (lv' := [(3, .int (0 : Int32)), (2, .int (bz r_12)), (0, .ref (a 0)), (1, .int p1)]) hx hb dX6_rests_42 rfl hl (by decide) rfl (fun ls hl => ?_)
      refine lv_iconst (v := (0 : Int32)) hx hb dX6_rests_43 (by decide) ?_
      refine lv_istore (lv' := [(4, .int (0 : Int32)), (3, .int (0 : Int32)), (2, .int (bz r_12)), (0, .ref (a 0)), (1, .int p1)]) hx hb dX6_rests_44 hl (by decide) rfl (fun ls hl => ?_)
      have hL_13 : ∀ n : Nat, ∀ (x3_14 : Int32) (x4_15 : Int32), ∀ (H : Heap) (locs : List Loc), va_P D zCl (cT k a t_7) H → va_D A (cT k a t_7) → va_S A s.heap H locs → ∀ ls : Array Slot, lv_has ls 7 [(0, .ref (a 0)), (1, .int p1), (2, .int (bz r_12)), (3, .int x3_14), (4, .int x4_15)] → fX6_rests_L46 t_7 r_12 p1 n x3_14 x4_15 = some (r, tt) → W p l e rX6_rests s m args below meth c H locs 0 0 (MQ below (QWr (fun r' w' => r' = (some (.int r)) ∧ w' = cT k a tt) D zCl A) args s 0 0 A) (F0 m 46 ls []) := by
        intro n
        induction n with
        | zero =>
          intro x3_14 x4_15 H locs hP hD hS ls hl hrun
          exact nomatch hrun
        | succ n ih =>
          intro x3_14 x4_15 H locs hP hD hS ls hl hrun
          rw [fX6_rests_L46.eq_2] at hrun
          refine lv_iload hx hb dX6_rests_46 (lv_at hl 4 rfl) ?_
          refine lv_iconst (v := (4 : Int32)) hx hb dX6_rests_48 (by decide) ?_
          refine lv_icmp_ge (tgt := 125) hx hb dX6_rests_49 (by decide) (fun c_16 => ?_) (fun c_16 => ?_)
          · have hrun := mif_p c_16 hrun
            refine lv_iload_n hx hb dX6_rests_125 rfl (lv_at hl 3 rfl) ?_
            cases hrun
            exact retW_i hx hb hr hlocks hP hD hS ⟨rfl, rfl⟩ dX6_rests_126
          have hrun := mif_n c_16 hrun
          refine lv_iload hx hb dX6_rests_52 (lv_at hl 4 rfl) ?_
          refine lv_iconst (v := (2 : Int32)) hx hb dX6_rests_54 (by decide) ?_
          refine lv_idiv hx hb dX6_rests_55 (by decide) ?_
          refine lv_istore (lv' := [(5, .int (x4_15 / (2 : Int32))), (0, .ref (a 0)), (1, .int p1), (2, .int (bz r_12)), (3, .int x3_14), (4, .int x4_15)]) hx hb dX6_rests_56 hl (by decide) rfl (fun ls hl => ?_)
          refine lv_iload hx hb dX6_rests_58 (lv_at hl 5 rfl) ?_
          refine lv_iconst (v := (2 : Int32)) hx hb dX6_rests_60 (by decide) ?_
          refine lv_irem hx hb dX6_rests_61 (by decide) ?_
          refine lv_istore (lv' := [(6, .int (mrm x4_15 (2 : Int32))), (5, .int (x4_15 / (2 : Int32))), (0, .ref (a 0)), (1, .int p1), (2, .int (bz r_12)), (3, .int x3_14), (4, .int x4_15)]) hx hb dX6_rests_62 hl (by decide) rfl (fun ls hl => ?_)
          refine lv_aload_n hx hb dX6_rests_64 rfl (lv_at hl 2 rfl) ?_
          refine lv_iload_n hx hb dX6_rests_65 rfl (lv_at hl 4 rfl) ?_
          refine lv_iconst (v := (1 : Int32)) hx hb dX6_rests_66 (by decide) ?_
          refine lv_iload hx hb dX6_rests_67 (lv_at hl 1 rfl) ?_
          refine lv_isub hx hb dX6_rests_69 ?_
          refine lv_iload hx hb dX6_rests_70 (lv_at hl 0 rfl) ?_
          obtain ⟨r_18, hc_17, hrun⟩ := mob_s rfl hrun
          refine cRV (As := [.int (bz r_12), .int ((1 : Int32) - (x4_15 / (2 : Int32))), .int (mrm x4_15 (2 : Int32))]) (ci := 0) ⟨hx, hb, hml, hown, hts⟩ hOK hz hS hP (mtX6_hostHas l D k a Z hOK _ _ _ _ _ hc_17) (kX6_hostHas hts q2359 rfl rfl ⟨Nat.le_of_ble_eq_true rfl, Nat.le_of_ble_eq_true rfl⟩) 0 rfl rfl rfl hl.1 rfl (lv_room (Nat.le_of_ble_eq_true rfl)) ⟨Nat.le_of_ble_eq_true rfl, Nat.le_of_ble_eq_true rfl⟩ dX6_rests_72 ?_
          refine lv_aload_n hx hb dX6_rests_75 rfl (lv_at hl 2 rfl) ?_
          refine lv_iload_n hx hb dX6_rests_76 rfl (lv_at hl 4 rfl) ?_
          refine lv_iload hx hb dX6_rests_77 (lv_at hl 1 rfl) ?_
          refine lv_iload hx hb dX6_rests_79 (lv_at hl 0 rfl) ?_
          obtain ⟨r_20, hc_19, hrun⟩ := mob_s rfl hrun
          refine cRV (As := [.int (bz r_12), .int (x4_15 / (2 : Int32)), .int (mrm x4_15 (2 : Int32))]) (ci := 0) ⟨hx, hb, hml, hown, hts⟩ hOK hz hS hP (mtX6_hostHas l D k a Z hOK _ _ _ _ _ hc_19) (kX6_hostHas hts q2359 rfl rfl ⟨Nat.le_of_ble_eq_true rfl, Nat.le_of_ble_eq_true rfl⟩) 0 rfl rfl rfl hl.1 rfl (lv_room (Nat.le_of_ble_eq_true rfl)) ⟨Nat.le_of_ble_eq_true rfl, Nat.le_of_ble_eq_true rfl⟩ dX6_rests_81 ?_
          refine lv_icmp_gt (tgt := 119) hx hb dX6_rests_84 (by decide) (fun c_21 => ?_) (fun c_21 => ?_)
          · have hrun := mif_p c_21 hrun
            refine lv_iinc (v := (x4_15 + (1 : Int32))) (lv' := [(4, .int (x4_15 + (1 : Int32))), (6, .int (mrm x4_15 (2 : Int32))), (5, .int (x4_15 / (2 : Int32))), (0, .ref (a 0)), (1, .int p1), (2, .int (bz r_12)), (3, .int x3_14)]) hx hb dX6_rests_119 hl (k := 6) rfl rfl (by decide) rfl (fun ls hl => ?_)
            refine lv_goto (tgt := 46) hx hb dX6_rests_122 (by decide) ?_
            exact ih x3_14 (x4_15 + (1 : Int32)) _ _ hP hD hS ls (lv_sub hl [3, 4, 5, 6, 0] rfl) hrun
          have hrun := mif_n c_21 hrun
          refine lv_aload_n hx hb dX6_rests_87 rfl (lv_at hl 2 rfl) ?_
          refine lv_iload_n hx hb dX6_rests_88 rfl (lv_at hl 3 rfl) ?_
          refine lv_iload_n hx hb dX6_rests_89 rfl (lv_at hl 4 rfl) ?_
          refine lv_iload hx hb dX6_rests_90 (lv_at hl 1 rfl) ?_
          refine lv_iconst (v := (1 : Int32)) hx hb dX6_rests_92 (by decide) ?_
          refine lv_iload hx hb dX6_rests_93 (lv_at hl 0 rfl) ?_
          refine lv_isub hx hb dX6_rests_95 ?_
          obtain ⟨r_23, hc_22, hrun⟩ := mob_s rfl hrun
          refine cRV (As := [.int p1, .int (bz r_12), .int (x4_15 / (2 : Int32)), .int ((1 : Int32) - (mrm x4_15 (2 : Int32)))]) (ci := 0) ⟨hx, hb, hml, hown, hts⟩ hOK hz hS hP (mtX6_guestHas l D k a Z hOK _ _ _ _ _ _ hc_22) (kX6_guestHas hts q2363 rfl rfl ⟨Nat.le_of_ble_eq_true rfl, Nat.le_of_ble_eq_true rfl⟩) 0 rfl rfl rfl hl.1 rfl (lv_room (Nat.le_of_ble_eq_true rfl)) ⟨Nat.le_of_ble_eq_true rfl, Nat.le_of_ble_eq_true rfl⟩ dX6_rests_96 ?_
          refine lv_aload_n hx hb dX6_rests_99 rfl (lv_at hl 2 rfl) ?_
          refine lv_iload_n hx hb dX6_rests_100 rfl (lv_at hl 3 rfl) ?_
          refine lv_iload_n hx hb dX6_rests_101 rfl (lv_at hl 4 rfl) ?_
          refine lv_iload hx hb dX6_rests_102 (lv_at hl 1 rfl) ?_
          refine lv_iload hx hb dX6_rests_104 (lv_at hl 0 rfl) ?_
          obtain ⟨r_25, hc_24, hrun⟩ := mob_s rfl hrun
          refine cRV (As := [.int p1, .int (bz r_12), .int (x4_15 / (2 : Int32)), .int (mrm x4_15 (2 : Int32))]) (ci := 0) ⟨hx, hb, hml, hown, hts⟩ hOK hz hS hP (mtX6_guestHas l D k a Z hOK _ _ _ _ _ _ hc_24) (kX6_guestHas hts q2363 rfl rfl ⟨Nat.le_of_ble_eq_true rfl, Nat.le_of_ble_eq_true rfl⟩) 0 rfl rfl rfl hl.1 rfl (lv_room (Nat.le_of_ble_eq_true rfl)) ⟨Nat.le_of_ble_eq_true rfl, Nat.le_of_ble_eq_true rfl⟩ dX6_rests_106 ?_
          refine lv_icmp_gt (tgt := 119) hx hb dX6_rests_109 (by decide) (fun c_26 => ?_) (fun c_26 => ?_)
          · have hrun := mif_p c_26 hrun
            refine lv_iinc (v := (x4_15 + (1 : Int32))) (lv' := [(4, .int (x4_15 + (1 : Int32))), (6, .int (mrm x4_15 (2 : Int32))), (5, .int (x4_15 / (2 : Int32))), (0, .ref (a 0)), (1, .int p1), (2, .int (bz r_12)), (3, .int x3_14)]) hx hb dX6_rests_119 hl (k := 6) rfl rfl (by decide) rfl (fun ls hl => ?_)
            refine lv_goto (tgt := 46) hx hb dX6_rests_122 (by decide) ?_
            exact ih x3_14 (x4_15 + (1 : Int32)) _ _ hP hD hS ls (lv_sub hl [3, 4, 5, 6, 0] rfl) hrun
          have hrun := mif_n c_26 hrun
          refine lv_iload_n hx hb dX6_rests_112 rfl (lv_at hl 5 rfl) ?_
          refine lv_iconst (v := (1 : Int32)) hx hb dX6_rests_113 (by decide) ?_
          refine lv_iload hx hb dX6_rests_114 (lv_at hl 6 rfl) ?_
          refine lv_ishl hx hb dX6_rests_116 ?_
          refine lv_ior hx hb dX6_rests_117 ?_
          refine lv_istore_n (lv' := [(3, .int (x3_14 ||| ((1 : Int32) <<< (x4_15 &&& (31 : Int32))))), (6, .int (mrm x4_15 (2 : Int32))), (5, .int (x4_15 / (2 : Int32))), (0, .ref (a 0)), (1, .int p1), (2, .int (bz r_12)), (4, .int x4_15)]) hx hb dX6_rests_118 rfl hl (by decide) rfl (fun ls hl => ?_)
          refine lv_iinc (v := (x4_15 + (1 : Int32))) (lv' := [(4, .int (x4_15 + (1 : Int32))), (3, .int (x3_14 ||| ((1 : Int32) <<< (x4_15 &&& (31 : Int32))))), (6, .int (mrm x4_15 (2 : Int32))), (5, .int (x4_15 / (2 : Int32))), (0, .ref (a 0)), (1, .int p1), (2, .int (bz r_12))]) hx hb dX6_rests_119 hl (k := 6) rfl rfl (by decide) rfl (fun ls hl => ?_)
          refine lv_goto (tgt := 46) hx hb dX6_rests_122 (by decide) ?_
          exact ih (x3_14 ||| ((1 : Int32) <<< (x4_15 &&& (31 : Int32)))) (x4_15 + (1 : Int32)) _ _ hP hD hS ls (lv_sub hl [4, 5, 6, 1, 0] rfl) hrun
      exact hL_13 mFU (0 : Int32) (0 : Int32) _ _ hP hD hS ls (lv_sub hl [3, 4, 2, 1, 0] rfl) hrun
    have hrun := mif_n c_8 hrun
    refine lv_iconst (v := (0 : Int32)) hx hb dX6_rests_24 (by decide) ?_
    cases hrun
    exact retW_i hx hb hr hlocks hP hD hS ⟨rfl, rfl⟩ dX6_rests_25
  refine lv_if_ne (tgt := 13) hx hb dX6_rests_6 (by decide) (fun c_3 => ?_) (fun c_3 => ?_)
  · have hrun := mif_p (bz_nz c_3) hrun
    refine lv_iconst (v := (0 : Int32)) hx hb dX6_rests_13 (by decide) ?_
    exact hj_4 false _ _ hP hD hS ls (lv_sub hl [0, 1] rfl) hrun
  have hrun := mif_n (bz_z c_3) hrun
  refine lv_iconst (v := (1 : Int32)) hx hb dX6_rests_9 (by decide) ?_
  refine lv_goto (tgt := 14) hx hb dX6_rests_10 (by decide) ?_
  exact hj_4 true _ _ hP hD hS ls (lv_sub hl [0, 1] rfl) hrun
def rX6_locked : Room := { frames := 5, cells := 0, slots := 0, locals := 112 }
noncomputable def fX6_locked_L9 (t_1 : Tw) : Nat → Int32 → Int32 → Option (Int32 × Tw)
  | 0, _, _ => none
  | n + 1, x1_3, x2_4 =>
    if ((tw_m t_1) 3) ≤ x2_4 then
      some (x1_3, t_1)
    else
      mob (fX6_watchers t_1 ((tw_m t_1) 4)) fun r_7 =>
      mob (fX6_isOf r_7 x2_4) fun r_9 =>
      if r_9 = true then
        mob (fX6_of t_1 x2_4 (0 : Int32)) fun r_12 =>
        mob (fX6_seesFrom t_1 r_12 false ((tw_m t_1) 4)) fun r_14 =>
        if r_14 = true then
          fX6_locked_L9 t_1 n (x1_3 ||| (0 : Int32)) (x2_4 + (1 : Int32))
        else
          fX6_locked_L9 t_1 n (x1_3 ||| ((1 : Int32) <<< (x2_4 &&& (31 : Int32)))) (x2_4 + (1 : Int32))
      else
        fX6_locked_L9 t_1 n (x1_3 ||| (0 : Int32)) (x2_4 + (1 : Int32))
noncomputable def fX6_locked (t : Tw) : Option (Int32 × Tw) :=
  mlt (tw_s_thrown t (0 : Int32)) fun t_1 =>
  fX6_locked_L9 t_1 mFU (0 : Int32) (0 : Int32)
theorem kX6_locked {R : Room} {s : State} {args : Array Value} {own : String} {idx mc ms : Nat} {rm : Room} (hts : ∀ w ∈ lw_all, w.before args s = true) (hl : Cond.methodLink own idx yX6_locked ∈ lw_all) (hrc : rm.cells = mc) (hrs : rm.slots = ms) (hR : rm.frames + 1 ≤ R.frames ∧ 8 + (3 + 11) + rm.locals ≤ R.locals) : CallW R s args own RX6 idx yX6_locked cX6_locked 3 (some .int) (ws_ yX6_locked cX6_locked 3 (some .int)) rm mc ms 0 :=
  cwV 0 hts (lw_V hl q2424 q2425 q115 q2426) rfl hrc hrs (by decide +kernel) hR
set_option maxHeartbeats 4000000 in
set_option maxRecDepth 100000 in
theorem mtX6_locked (l : Launch) (D : va_G) (k : Nat → ClassId) (a : Nat → Nat) (Z : zZ) (hOK : zOK D zCl (zTys k) Z) (t : Tw) (r : Int32) (tt : Tw) (hrun : fX6_locked t = some (r, tt)) :
    CtW l yX6_locked cX6_locked 3 (some .int) rX6_locked Z D zCl (cT k a t) [.ref (a 0)] (fun r' w' => r' = (some (.int r)) ∧ w' = cT k a tt) 0 0 := by
  refine CtW.of (by decide) (Nat.le_of_ble_eq_true rfl) ?_
  intro p e s m args below meth c A hE hA hP hD hS hz ls hl
  obtain ⟨hx, hb, hr, hml, hown, hts, hlocks, hname⟩ := hE
  have hown : s.vm.findClass RX6 = some m.cls := hown
  have hK := hOK.1 _ _ _ hz
  have hl : lv_has ls 3 [(0, .ref (a 0))] := hl
  unfold fX6_locked at hrun
  refine lv_aload_n hx hb dX6_locked_0 rfl (lv_at hl 0 rfl) ?_
  refine lv_iconst (v := (0 : Int32)) hx hb dX6_locked_1 (by decide) ?_
  refine va_put (ci := 0) (v := .int (0 : Int32)) (ty := tyX6 0) (C := RX6) (T := TX6) (N := 22) hx hb hts in_X6 tyX6 tyX6_ok nmX6 hown hK hP hD hS 0 rfl rfl 0 (by decide) (hts _ q1902) (fun _ h9 => h9) rfl (tyX6_ok 0 (by decide)) rfl rfl (Nat.le_of_ble_eq_true rfl) dX6_locked_2 (fun H locs hP hD hS => ?_)
  have hP : va_P D zCl (cT k a (tw_s_thrown t (0 : Int32))) H := hP
  have hD : va_D A (cT k a (tw_s_thrown t (0 : Int32))) := hD
  obtain ⟨t_1, et_1⟩ : ∃ z : Tw, z = (tw_s_thrown t (0 : Int32)) := ⟨_, rfl⟩
  rw [← et_1] at hP hD
  have hrun := mlt_s hrun t_1 et_1
  refine lv_iconst (v := (0 : Int32)) hx hb dX6_locked_5 (by decide) ?_
  refine lv_istore_n (lv' := [(1, .int (0 : Int32)), (0, .ref (a 0))]) hx hb dX6_locked_6 rfl hl (by decide) rfl (fun ls hl => ?_)
  refine lv_iconst (v := (0 : Int32)) hx hb dX6_locked_7 (by decide) ?_
  refine lv_istore_n (lv' := [(2, .int (0 : Int32)), (1, .int (0 : Int32)), (0, .ref (a 0))]) hx hb dX6_locked_8 rfl hl (by decide) rfl (fun ls hl => ?_)
  have hL_2 : ∀ n : Nat, ∀ (x1_3 : Int32) (x2_4 : Int32), ∀ (H : Heap) (locs : List Loc), va_P D zCl (cT k a t_1) H → va_D A (cT k a t_1) → va_S A s.heap H locs → ∀ ls : Array Slot, lv_has ls 3 [(0, .ref (a 0)), (1, .int x1_3), (2, .int x2_4)] → fX6_locked_L9 t_1 n x1_3 x2_4 = some (r, tt) → W p l e rX6_locked s m args below meth c H locs 0 0 (MQ below (QWr (fun r' w' => r' = (some (.int r)) ∧ w' = cT k a tt) D zCl A) args s 0 0 A) (F0 m 9 ls []) := by
    intro n
    induction n with
    | zero =>
      intro x1_3 x2_4 H locs hP hD hS ls hl hrun
      exact nomatch hrun
    | succ n ih =>
      intro x1_3 x2_4 H locs hP hD hS ls hl hrun
      rw [fX6_locked_L9.eq_2] at hrun
      refine lv_iload_n hx hb dX6_locked_9 rfl (lv_at hl 2 rfl) ?_
      refine lv_aload_n hx hb dX6_locked_10 rfl (lv_at hl 0 rfl) ?_
      refine va_get (ci := 0) (v := .ref (a 1)) (C := RX6) (T := TX6) (N := 22) hx hb hts in_X6 hown hK hP 0 rfl rfl 1 (by decide) (hts _ q1903) (fun _ h9 => h9) rfl dX6_locked_11 ?_
      refine lv_iconst (v := (3 : Int32)) hx hb dX6_locked_14 (by decide) ?_
      refine va_ialdk (k := 3) hx hb hK hP 1 0 rfl rfl rfl (show ¬ _ from by decide) dX6_locked_15 ?_
      refine lv_icmp_ge (tgt := 72) hx hb dX6_locked_16 (by decide) (fun c_5 => ?_) (fun c_5 => ?_)
      · have hrun := mif_p c_5 hrun
        refine lv_iload_n hx hb dX6_locked_72 rfl (lv_at hl 1 rfl) ?_
        cases hrun
        exact retW_i hx hb hr hlocks hP hD hS ⟨rfl, rfl⟩ dX6_locked_73
      have hrun := mif_n c_5 hrun
      refine lv_iload_n hx hb dX6_locked_19 rfl (lv_at hl 1 rfl) ?_
      refine lv_aload_n hx hb dX6_locked_20 rfl (lv_at hl 0 rfl) ?_
      refine lv_aload_n hx hb dX6_locked_21 rfl (lv_at hl 0 rfl) ?_
      refine va_get (ci := 0) (v := .ref (a 1)) (C := RX6) (T := TX6) (N := 22) hx hb hts in_X6 hown hK hP 0 rfl rfl 1 (by decide) (hts _ q1903) (fun _ h9 => h9) rfl dX6_locked_22 ?_
      refine lv_iconst (v := (4 : Int32)) hx hb dX6_locked_25 (by decide) ?_
      refine va_ialdk (k := 4) hx hb hK hP 1 0 rfl rfl rfl (show ¬ _ from by decide) dX6_locked_26 ?_
      obtain ⟨r_7, hc_6, hrun⟩ := mob_s rfl hrun
      refine cRV (As := [.int ((tw_m t_1) 4)]) (ci := 0) ⟨hx, hb, hml, hown, hts⟩ hOK hz hS hP (mtX6_watchers l D k a Z hOK _ _ _ hc_6) (kX6_watchers hts q2193 rfl rfl ⟨Nat.le_of_ble_eq_true rfl, Nat.le_of_ble_eq_true rfl⟩) 0 rfl rfl rfl hl.1 rfl (lv_room (Nat.le_of_ble_eq_true rfl)) ⟨Nat.le_of_ble_eq_true rfl, Nat.le_of_ble_eq_true rfl⟩ dX6_locked_27 ?_
      refine lv_iload_n hx hb dX6_locked_30 rfl (lv_at hl 2 rfl) ?_
      obtain ⟨r_9, hc_8, hrun⟩ := mob_s rfl hrun
      refine cRS (ws := []) (As := [.int r_7, .int x2_4]) ⟨hx, hb, hml, hown, hts⟩ hOK hz hS zP0 (mtX6_isOf l D Z hOK _ _ _ hc_8) (kX6_isOf hts q2175 rfl rfl ⟨Nat.le_of_ble_eq_true rfl, Nat.le_of_ble_eq_true rfl⟩) rfl hl.1 rfl (lv_room (Nat.le_of_ble_eq_true rfl)) ⟨Nat.le_of_ble_eq_true rfl, Nat.le_of_ble_eq_true rfl⟩ dX6_locked_31 ?_
      refine lv_if_eq (tgt := 63) hx hb dX6_locked_34 (by decide) (fun c_10 => ?_) (fun c_10 => ?_)
      · have hrun := mif_n (bz_z c_10) hrun
        refine lv_iconst (v := (0 : Int32)) hx hb dX6_locked_63 (by decide) ?_
        refine lv_ior hx hb dX6_locked_64 ?_
        refine lv_istore_n (lv' := [(1, .int (x1_3 ||| (0 : Int32))), (0, .ref (a 0)), (2, .int x2_4)]) hx hb dX6_locked_65 rfl hl (by decide) rfl (fun ls hl => ?_)
        refine lv_iinc (v := (x2_4 + (1 : Int32))) (lv' := [(2, .int (x2_4 + (1 : Int32))), (1, .int (x1_3 ||| (0 : Int32))), (0, .ref (a 0))]) hx hb dX6_locked_66 hl (k := 2) rfl rfl (by decide) rfl (fun ls hl => ?_)
        refine lv_goto (tgt := 9) hx hb dX6_locked_69 (by decide) ?_
        exact ih (x1_3 ||| (0 : Int32)) (x2_4 + (1 : Int32)) _ _ hP hD hS ls (lv_sub hl [2, 1, 0] rfl) hrun
      have hrun := mif_p (bz_nz c_10) hrun
      refine lv_aload_n hx hb dX6_locked_37 rfl (lv_at hl 0 rfl) ?_
      refine lv_aload_n hx hb dX6_locked_38 rfl (lv_at hl 0 rfl) ?_
      refine lv_iload_n hx hb dX6_locked_39 rfl (lv_at hl 2 rfl) ?_
      refine lv_iconst (v := (0 : Int32)) hx hb dX6_locked_40 (by decide) ?_
      obtain ⟨r_12, hc_11, hrun⟩ := mob_s rfl hrun
      refine cRV (As := [.int x2_4, .int (0 : Int32)]) (ci := 0) ⟨hx, hb, hml, hown, hts⟩ hOK hz hS hP (mtX6_of l D k a Z hOK _ _ _ _ hc_11) (kX6_of hts q2136 rfl rfl ⟨Nat.le_of_ble_eq_true rfl, Nat.le_of_ble_eq_true rfl⟩) 0 rfl rfl rfl hl.1 rfl (lv_room (Nat.le_of_ble_eq_true rfl)) ⟨Nat.le_of_ble_eq_true rfl, Nat.le_of_ble_eq_true rfl⟩ dX6_locked_41 ?_
      refine lv_iconst (v := (0 : Int32)) hx hb dX6_locked_44 (by decide) ?_
      refine lv_aload_n hx hb dX6_locked_45 rfl (lv_at hl 0 rfl) ?_
      refine va_get (ci := 0) (v := .ref (a 1)) (C := RX6) (T := TX6) (N := 22) hx hb hts in_X6 hown hK hP 0 rfl rfl 1 (by decide) (hts _ q1903) (fun _ h9 => h9) rfl dX6_locked_46 ?_
      refine lv_iconst (v := (4 : Int32)) hx hb dX6_locked_49 (by decide) ?_
      refine va_ialdk (k := 4) hx hb hK hP 1 0 rfl rfl rfl (show ¬ _ from by decide) dX6_locked_50 ?_
      obtain ⟨r_14, hc_13, hrun⟩ := mob_s rfl hrun
      refine cRV (As := [.int r_12, .int (bz false), .int ((tw_m t_1) 4)]) (ci := 0) ⟨hx, hb, hml, hown, hts⟩ hOK hz hS hP (mtX6_seesFrom l D k a Z hOK _ _ _ _ _ hc_13) (kX6_seesFrom hts q2167 rfl rfl ⟨Nat.le_of_ble_eq_true rfl, Nat.le_of_ble_eq_true rfl⟩) 0 rfl rfl rfl hl.1 rfl (lv_room (Nat.le_of_ble_eq_true rfl)) ⟨Nat.le_of_ble_eq_true rfl, Nat.le_of_ble_eq_true rfl⟩ dX6_locked_51 ?_
      refine lv_if_ne (tgt := 63) hx hb dX6_locked_54 (by decide) (fun c_15 => ?_) (fun c_15 => ?_)
      · have hrun := mif_p (bz_nz c_15) hrun
        refine lv_iconst (v := (0 : Int32)) hx hb dX6_locked_63 (by decide) ?_
        refine lv_ior hx hb dX6_locked_64 ?_
        refine lv_istore_n (lv' := [(1, .int (x1_3 ||| (0 : Int32))), (0, .ref (a 0)), (2, .int x2_4)]) hx hb dX6_locked_65 rfl hl (by decide) rfl (fun ls hl => ?_)
        refine lv_iinc (v := (x2_4 + (1 : Int32))) (lv' := [(2, .int (x2_4 + (1 : Int32))), (1, .int (x1_3 ||| (0 : Int32))), (0, .ref (a 0))]) hx hb dX6_locked_66 hl (k := 2) rfl rfl (by decide) rfl (fun ls hl => ?_)
        refine lv_goto (tgt := 9) hx hb dX6_locked_69 (by decide) ?_
        exact ih (x1_3 ||| (0 : Int32)) (x2_4 + (1 : Int32)) _ _ hP hD hS ls (lv_sub hl [2, 1, 0] rfl) hrun
      have hrun := mif_n (bz_z c_15) hrun
      refine lv_iconst (v := (1 : Int32)) hx hb dX6_locked_57 (by decide) ?_
      refine lv_iload_n hx hb dX6_locked_58 rfl (lv_at hl 2 rfl) ?_
      refine lv_ishl hx hb dX6_locked_59 ?_
      refine lv_goto (tgt := 64) hx hb dX6_locked_60 (by decide) ?_
      refine lv_ior hx hb dX6_locked_64 ?_
      refine lv_istore_n (lv' := [(1, .int (x1_3 ||| ((1 : Int32) <<< (x2_4 &&& (31 : Int32))))), (0, .ref (a 0)), (2, .int x2_4)]) hx hb dX6_locked_65 rfl hl (by decide) rfl (fun ls hl => ?_)
      refine lv_iinc (v := (x2_4 + (1 : Int32))) (lv' := [(2, .int (x2_4 + (1 : Int32))), (1, .int (x1_3 ||| ((1 : Int32) <<< (x2_4 &&& (31 : Int32))))), (0, .ref (a 0))]) hx hb dX6_locked_66 hl (k := 2) rfl rfl (by decide) rfl (fun ls hl => ?_)
      refine lv_goto (tgt := 9) hx hb dX6_locked_69 (by decide) ?_
      exact ih (x1_3 ||| ((1 : Int32) <<< (x2_4 &&& (31 : Int32)))) (x2_4 + (1 : Int32)) _ _ hP hD hS ls (lv_sub hl [2, 1, 0] rfl) hrun
  exact hL_2 mFU (0 : Int32) (0 : Int32) _ _ hP hD hS ls (lv_sub hl [2, 1, 0] rfl) hrun
