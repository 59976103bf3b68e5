/-! walks: X6_remembers, X6_lesser, X6_greater, X6_draw, X6_looks, X6_builds, X6_both -/
def rX6_remembers : Room := { frames := 0, cells := 0, slots := 0, locals := 0 }
noncomputable def fX6_remembers_L52 (K_7 : Tw → Option (Tw)) : Nat → Int32 → Tw → Option (Tw)
  | 0, _, _ => none
  | n + 1, x1_10, t_11 =>
    if (304 : Int32) ≤ x1_10 then
      K_7 t_11
    else
      mck x1_10 704 <|
      mck (((304 : Int32) * (tw_acted t_11)) + x1_10) 3648 <|
      mlt (tw_s_acts t_11 (upd (tw_acts t_11) (Int32.toNatClampNeg (((304 : Int32) * (tw_acted t_11)) + x1_10)) ((tw_m t_11) (Int32.toNatClampNeg x1_10)))) fun t_15 =>
      fX6_remembers_L52 K_7 n (x1_10 + (1 : Int32)) t_15
noncomputable def fX6_remembers_L11 (K_19 : Tw → Option (Tw)) : Nat → Int32 → Tw → Option (Tw)
  | 0, _, _ => none
  | n + 1, x1_22, t_23 =>
    if (3344 : Int32) ≤ x1_22 then
      K_19 t_23
    else
      mck (x1_22 + (304 : Int32)) 3648 <|
      mck x1_22 3648 <|
      mlt (tw_s_acts t_23 (upd (tw_acts t_23) (Int32.toNatClampNeg x1_22) ((tw_acts t_23) (Int32.toNatClampNeg (x1_22 + (304 : Int32)))))) fun t_27 =>
      fX6_remembers_L11 K_19 n (x1_22 + (1 : Int32)) t_27
noncomputable def fX6_remembers (t : Tw) : Option (Tw) :=
  mjn (fun (t_3 : Tw) =>
  mjn (fun (t_6 : Tw) =>
  mlt (tw_s_acted t_6 ((tw_acted t_6) + (1 : Int32))) fun t_8 =>
  some t_8) fun K_7 =>
  fX6_remembers_L52 K_7 mFU (0 : Int32) t_3) fun K_4 =>
  if (tw_acted t) = (12 : Int32) then
    mjn (fun (t_18 : Tw) =>
    mlt (tw_s_acted t_18 ((tw_acted t_18) - (1 : Int32))) fun t_20 =>
    K_4 t_20) fun K_19 =>
    fX6_remembers_L11 K_19 mFU (0 : Int32) t
  else
    K_4 t
theorem kX6_remembers {R : Room} {s : State} {args : Array Value} {own : String} {idx mc ms : Nat} {rm : Room} (hts : ∀ w ∈ lw_all, w.before args s = true) (hl : Cond.methodLink own idx yX6_remembers ∈ lw_all) (hrc : rm.cells = mc) (hrs : rm.slots = ms) (hR : rm.frames + 1 ≤ R.frames ∧ 8 + (2 + 11) + rm.locals ≤ R.locals) : CallW R s args own RX6 idx yX6_remembers cX6_remembers 2 none (ws_ yX6_remembers cX6_remembers 2 none) rm mc ms 0 :=
  cwV 0 hts (lw_V hl q2215 qs87 q115 q2216) rfl hrc hrs (by decide +kernel) hR
set_option maxHeartbeats 4000000 in
set_option maxRecDepth 100000 in
theorem mtX6_remembers (l : Launch) (D : va_G) (k : Nat → ClassId) (a : Nat → Nat) (Z : zZ) (hOK : zOK D zCl (zTys k) Z) (t : Tw) (tt : Tw) (hrun : fX6_remembers t = some tt) :
    CtW l yX6_remembers cX6_remembers 2 none rX6_remembers Z D zCl (cT k a t) [.ref (a 0)] (fun r' w' => r' = none ∧ w' = cT k a tt) 0 0 := by
  refine CtW.of (by decide) (Nat.le_of_ble_eq_true rfl) ?_
  intro p e s m args below meth c A hE hA hP hD hS hz ls hl
  obtain ⟨hx, hb, hr, hml, hown, hts, hlocks, hname⟩ := hE
  have hown : s.vm.findClass RX6 = some m.cls := hown
  have hK := hOK.1 _ _ _ hz
  have hl : lv_has ls 2 [(0, .ref (a 0))] := hl
  unfold fX6_remembers at hrun
  refine lv_aload_n hx hb dX6_remembers_0 rfl (lv_at hl 0 rfl) ?_
  refine va_get (ci := 0) (v := .int (tw_acted t)) (C := RX6) (T := TX6) (N := 22) hx hb hts in_X6 hown hK hP 0 rfl rfl 6 (by decide) (hts _ q1908) (fun _ h9 => h9) rfl dX6_remembers_1 ?_
  refine lv_bipush (v := (12 : Int32)) hx hb dX6_remembers_4 (by decide) ?_
  obtain ⟨K_4, hK_4, hrun⟩ := mjn_s hrun
  have hj_2 : ∀ (t_3 : Tw), ∀ (H : Heap) (locs : List Loc), va_P D zCl (cT k a t_3) H → va_D A (cT k a t_3) → va_S A s.heap H locs → ∀ ls : Array Slot, lv_has ls 2 [(0, .ref (a 0))] → K_4 t_3 = some tt → W p l e rX6_remembers s m args below meth c H locs 0 0 (MQ below (QWr (fun r' w' => r' = none ∧ w' = cT k a tt) D zCl A) args s 0 0 A) (F0 m 50 ls []) := by
    intro t_3 H locs hP hD hS ls hl hrun
    rw [hK_4] at hrun
    refine lv_iconst (v := (0 : Int32)) hx hb dX6_remembers_50 (by decide) ?_
    refine lv_istore_n (lv' := [(1, .int (0 : Int32)), (0, .ref (a 0))]) hx hb dX6_remembers_51 rfl hl (by decide) rfl (fun ls hl => ?_)
    obtain ⟨K_7, hK_7, hrun⟩ := mjn_s hrun
    have hj_5 : ∀ (t_6 : Tw), ∀ (H : Heap) (locs : List Loc), va_P D zCl (cT k a t_6) H → va_D A (cT k a t_6) → va_S A s.heap H locs → ∀ ls : Array Slot, lv_has ls 2 [(0, .ref (a 0))] → K_7 t_6 = some tt → W p l e rX6_remembers s m args below meth c H locs 0 0 (MQ below (QWr (fun r' w' => r' = none ∧ w' = cT k a tt) D zCl A) args s 0 0 A) (F0 m 86 ls []) := by
      intro t_6 H locs hP hD hS ls hl hrun
      rw [hK_7] at hrun
      refine lv_aload_n hx hb dX6_remembers_86 rfl (lv_at hl 0 rfl) ?_
      refine lv_dup hx hb dX6_remembers_87 rfl ?_
      refine va_get (ci := 0) (v := .int (tw_acted t_6)) (C := RX6) (T := TX6) (N := 22) hx hb hts in_X6 hown hK hP 0 rfl rfl 6 (by decide) (hts _ q1908) (fun _ h9 => h9) rfl dX6_remembers_88 ?_
      refine lv_iconst (v := (1 : Int32)) hx hb dX6_remembers_91 (by decide) ?_
      refine lv_iadd hx hb dX6_remembers_92 ?_
      refine va_put (ci := 0) (v := .int ((tw_acted t_6) + (1 : Int32))) (ty := tyX6 6) (C := RX6) (T := TX6) (N := 22) hx hb hts in_X6 tyX6 tyX6_ok nmX6 hown hK hP hD hS 0 rfl rfl 6 (by decide) (hts _ q1908) (fun _ h9 => h9) rfl (tyX6_ok 6 (by decide)) rfl rfl (Nat.le_of_ble_eq_true rfl) dX6_remembers_93 (fun H locs hP hD hS => ?_)
      have hP : va_P D zCl (cT k a (tw_s_acted t_6 ((tw_acted t_6) + (1 : Int32)))) H := hP
      have hD : va_D A (cT k a (tw_s_acted t_6 ((tw_acted t_6) + (1 : Int32)))) := hD
      obtain ⟨t_8, et_8⟩ : ∃ z : Tw, z = (tw_s_acted t_6 ((tw_acted t_6) + (1 : Int32))) := ⟨_, rfl⟩
      rw [← et_8] at hP hD
      have hrun := mlt_s hrun t_8 et_8
      cases hrun
      exact retW_v hx hb hr hlocks hP hD hS ⟨rfl, rfl⟩ dX6_remembers_96
    have hL_9 : ∀ n : Nat, ∀ (x1_10 : Int32) (t_11 : Tw), ∀ (H : Heap) (locs : List Loc), va_P D zCl (cT k a t_11) H → va_D A (cT k a t_11) → va_S A s.heap H locs → ∀ ls : Array Slot, lv_has ls 2 [(0, .ref (a 0)), (1, .int x1_10)] → fX6_remembers_L52 K_7 n x1_10 t_11 = some tt → W p l e rX6_remembers s m args below meth c H locs 0 0 (MQ below (QWr (fun r' w' => r' = none ∧ w' = cT k a tt) D zCl A) args s 0 0 A) (F0 m 52 ls []) := by
      intro n
      induction n with
      | zero =>
        intro x1_10 t_11 H locs hP hD hS ls hl hrun
        exact nomatch hrun
      | succ n ih =>
        intro x1_10 t_11 H locs hP hD hS ls hl hrun
        rw [fX6_remembers_L52.eq_2] at hrun
        refine lv_iload_n hx hb dX6_remembers_52 rfl (lv_at hl 1 rfl) ?_
        refine lv_sipush (v := (304 : Int32)) hx hb dX6_remembers_53 (by decide) ?_
        refine lv_icmp_ge (tgt := 86) hx hb dX6_remembers_56 (by decide) (fun c_12 => ?_) (fun c_12 => ?_)
        · have hrun := mif_p c_12 hrun
          exact hj_5 t_11 _ _ hP hD hS ls (lv_sub hl [0] rfl) hrun
        have hrun := mif_n c_12 hrun
        refine lv_aload_n hx hb dX6_remembers_59 rfl (lv_at hl 0 rfl) ?_
        refine va_get (ci := 0) (v := .ref (a 4)) (C := RX6) (T := TX6) (N := 22) hx hb hts in_X6 hown hK hP 0 rfl rfl 5 (by decide) (hts _ q1907) (fun _ h9 => h9) rfl dX6_remembers_60 ?_
        refine lv_sipush (v := (304 : Int32)) hx hb dX6_remembers_63 (by decide) ?_
        refine lv_aload_n hx hb dX6_remembers_66 rfl (lv_at hl 0 rfl) ?_
        refine va_get (ci := 0) (v := .int (tw_acted t_11)) (C := RX6) (T := TX6) (N := 22) hx hb hts in_X6 hown hK hP 0 rfl rfl 6 (by decide) (hts _ q1908) (fun _ h9 => h9) rfl dX6_remembers_67 ?_
        refine lv_imul hx hb dX6_remembers_70 ?_
        refine lv_iload_n hx hb dX6_remembers_71 rfl (lv_at hl 1 rfl) ?_
        refine lv_iadd hx hb dX6_remembers_72 ?_
        refine lv_aload_n hx hb dX6_remembers_73 rfl (lv_at hl 0 rfl) ?_
        refine va_get (ci := 0) (v := .ref (a 1)) (C := RX6) (T := TX6) (N := 22) hx hb hts in_X6 hown hK hP 0 rfl rfl 1 (by decide) (hts _ q1903) (fun _ h9 => h9) rfl dX6_remembers_74 ?_
        refine lv_iload_n hx hb dX6_remembers_77 rfl (lv_at hl 1 rfl) ?_
        obtain ⟨hb_13, hrun⟩ := mck_s rfl hrun
        refine va_iald hx hb hK hP 1 0 rfl rfl hb_13 dX6_remembers_78 ?_
        obtain ⟨hb_14, hrun⟩ := mck_s rfl hrun
        refine va_iast hx hb hK hP hD hS 4 0 rfl rfl hb_14 dX6_remembers_79 (fun H locs hP hD hS => ?_)
        have hP : va_P D zCl (cT k a (tw_s_acts t_11 (upd (tw_acts t_11) (Int32.toNatClampNeg (((304 : Int32) * (tw_acted t_11)) + x1_10)) ((tw_m t_11) (Int32.toNatClampNeg x1_10))))) H := hP
        have hD : va_D A (cT k a (tw_s_acts t_11 (upd (tw_acts t_11) (Int32.toNatClampNeg (((304 : Int32) * (tw_acted t_11)) + x1_10)) ((tw_m t_11) (Int32.toNatClampNeg x1_10))))) := hD
        obtain ⟨t_15, et_15⟩ : ∃ z : Tw, z = (tw_s_acts t_11 (upd (tw_acts t_11) (Int32.toNatClampNeg (((304 : Int32) * (tw_acted t_11)) + x1_10)) ((tw_m t_11) (Int32.toNatClampNeg x1_10)))) := ⟨_, rfl⟩
        rw [← et_15] at hP hD
        have hrun := mlt_s hrun t_15 et_15
        refine lv_iinc (v := (x1_10 + (1 : Int32))) (lv' := [(1, .int (x1_10 + (1 : Int32))), (0, .ref (a 0))]) hx hb dX6_remembers_80 hl (k := 1) rfl rfl (by decide) rfl (fun ls hl => ?_)
        refine lv_goto (tgt := 52) hx hb dX6_remembers_83 (by decide) ?_
        exact ih (x1_10 + (1 : Int32)) t_15 _ _ hP hD hS ls (lv_sub hl [1, 0] rfl) hrun
    exact hL_9 mFU (0 : Int32) t_3 _ _ hP hD hS ls (lv_sub hl [1, 0] rfl) hrun
  refine lv_icmp_ne (tgt := 50) hx hb dX6_remembers_6 (by decide) (fun c_1 => ?_) (fun c_1 => ?_)
  · have hrun := mif_n c_1 hrun
    exact hj_2 t _ _ hP hD hS ls (lv_sub hl [0] rfl) hrun
  have hrun := mif_p c_1 hrun
  refine lv_iconst (v := (0 : Int32)) hx hb dX6_remembers_9 (by decide) ?_
  refine lv_istore_n (lv' := [(1, .int (0 : Int32)), (0, .ref (a 0))]) hx hb dX6_remembers_10 rfl hl (by decide) rfl (fun ls hl => ?_)
  obtain ⟨K_19, hK_19, hrun⟩ := mjn_s hrun
  have hj_17 : ∀ (t_18 : Tw), ∀ (H : Heap) (locs : List Loc), va_P D zCl (cT k a t_18) H → va_D A (cT k a t_18) → va_S A s.heap H locs → ∀ ls : Array Slot, lv_has ls 2 [(0, .ref (a 0))] → K_19 t_18 = some tt → W p l e rX6_remembers s m args below meth c H locs 0 0 (MQ below (QWr (fun r' w' => r' = none ∧ w' = cT k a tt) D zCl A) args s 0 0 A) (F0 m 40 ls []) := by
    intro t_18 H locs hP hD hS ls hl hrun
    rw [hK_19] at hrun
    refine lv_aload_n hx hb dX6_remembers_40 rfl (lv_at hl 0 rfl) ?_
    refine lv_dup hx hb dX6_remembers_41 rfl ?_
    refine va_get (ci := 0) (v := .int (tw_acted t_18)) (C := RX6) (T := TX6) (N := 22) hx hb hts in_X6 hown hK hP 0 rfl rfl 6 (by decide) (hts _ q1908) (fun _ h9 => h9) rfl dX6_remembers_42 ?_
    refine lv_iconst (v := (1 : Int32)) hx hb dX6_remembers_45 (by decide) ?_
    refine lv_isub hx hb dX6_remembers_46 ?_
    refine va_put (ci := 0) (v := .int ((tw_acted t_18) - (1 : Int32))) (ty := tyX6 6) (C := RX6) (T := TX6) (N := 22) hx hb hts in_X6 tyX6 tyX6_ok nmX6 hown hK hP hD hS 0 rfl rfl 6 (by decide) (hts _ q1908) (fun _ h9 => h9) rfl (tyX6_ok 6 (by decide)) rfl rfl (Nat.le_of_ble_eq_true rfl) dX6_remembers_47 (fun H locs hP hD hS => ?_)
    have hP : va_P D zCl (cT k a (tw_s_acted t_18 ((tw_acted t_18) - (1 : Int32)))) H := hP
    have hD : va_D A (cT k a (tw_s_acted t_18 ((tw_acted t_18) - (1 : Int32)))) := hD
    obtain ⟨t_20, et_20⟩ : ∃ z : Tw, z = (tw_s_acted t_18 ((tw_acted t_18) - (1 : Int32))) := ⟨_, rfl⟩
    rw [← et_20] at hP hD
    have hrun := mlt_s hrun t_20 et_20
    exact hj_2 t_20 _ _ hP hD hS ls (lv_sub hl [0] rfl) hrun
  have hL_21 : ∀ n : Nat, ∀ (x1_22 : Int32) (t_23 : Tw), ∀ (H : Heap) (locs : List Loc), va_P D zCl (cT k a t_23) H → va_D A (cT k a t_23) → va_S A s.heap H locs → ∀ ls : Array Slot, lv_has ls 2 [(0, .ref (a 0)), (1, .int x1_22)] → fX6_remembers_L11 K_19 n x1_22 t_23 = some tt → W p l e rX6_remembers s m args below meth c H locs 0 0 (MQ below (QWr (fun r' w' => r' = none ∧ w' = cT k a tt) D zCl A) args s 0 0 A) (F0 m 11 ls []) := by
    intro n
    induction n with
    | zero =>
      intro x1_22 t_23 H locs hP hD hS ls hl hrun
      exact nomatch hrun
    | succ n ih =>
      intro x1_22 t_23 H locs hP hD hS ls hl hrun
      rw [fX6_remembers_L11.eq_2] at hrun
      refine lv_iload_n hx hb dX6_remembers_11 rfl (lv_at hl 1 rfl) ?_
      refine lv_sipush (v := (3344 : Int32)) hx hb dX6_remembers_12 (by decide) ?_
      refine lv_icmp_ge (tgt := 40) hx hb dX6_remembers_15 (by decide) (fun c_24 => ?_) (fun c_24 => ?_)
      · have hrun := mif_p c_24 hrun
        exact hj_17 t_23 _ _ hP hD hS ls (lv_sub hl [0] rfl) hrun
      have hrun := mif_n c_24 hrun
      refine lv_aload_n hx hb dX6_remembers_18 rfl (lv_at hl 0 rfl) ?_
      refine va_get (ci := 0) (v := .ref (a 4)) (C := RX6) (T := TX6) (N := 22) hx hb hts in_X6 hown hK hP 0 rfl rfl 5 (by decide) (hts _ q1907) (fun _ h9 => h9) rfl dX6_remembers_19 ?_
      refine lv_iload_n hx hb dX6_remembers_22 rfl (lv_at hl 1 rfl) ?_
      refine lv_aload_n hx hb dX6_remembers_23 rfl (lv_at hl 0 rfl) ?_
      refine va_get (ci := 0) (v := .ref (a 4)) (C := RX6) (T := TX6) (N := 22) hx hb hts in_X6 hown hK hP 0 rfl rfl 5 (by decide) (hts _ q1907) (fun _ h9 => h9) rfl dX6_remembers_24 ?_
      refine lv_iload_n hx hb dX6_remembers_27 rfl (lv_at hl 1 rfl) ?_
      refine lv_sipush (v := (304 : Int32)) hx hb dX6_remembers_28 (by decide) ?_
      refine lv_iadd hx hb dX6_remembers_31 ?_
      obtain ⟨hb_25, hrun⟩ := mck_s rfl hrun
      refine va_iald hx hb hK hP 4 0 rfl rfl hb_25 dX6_remembers_32 ?_
      obtain ⟨hb_26, hrun⟩ := mck_s rfl hrun
      refine va_iast hx hb hK hP hD hS 4 0 rfl rfl hb_26 dX6_remembers_33 (fun H locs hP hD hS => ?_)
      have hP : va_P D zCl (cT k a (tw_s_acts t_23 (upd (tw_acts t_23) (Int32.toNatClampNeg x1_22) ((tw_acts t_23) (Int32.toNatClampNeg (x1_22 + (304 : Int32))))))) H := hP
      have hD : va_D A (cT k a (tw_s_acts t_23 (upd (tw_acts t_23) (Int32.toNatClampNeg x1_22) ((tw_acts t_23) (Int32.toNatClampNeg (x1_22 + (304 : Int32))))))) := hD
      obtain ⟨t_27, et_27⟩ : ∃ z : Tw, z = (tw_s_acts t_23 (upd (tw_acts t_23) (Int32.toNatClampNeg x1_22) ((tw_acts t_23) (Int32.toNatClampNeg (x1_22 + (304 : Int32)))))) := ⟨_, rfl⟩
      rw [← et_27] at hP hD
      have hrun := mlt_s hrun t_27 et_27
      refine lv_iinc (v := (x1_22 + (1 : Int32))) (lv' := [(1, .int (x1_22 + (1 : Int32))), (0, .ref (a 0))]) hx hb dX6_remembers_34 hl (k := 1) rfl rfl (by decide) rfl (fun ls hl => ?_)
      refine lv_goto (tgt := 11) hx hb dX6_remembers_37 (by decide) ?_
      exact ih (x1_22 + (1 : Int32)) t_27 _ _ hP hD hS ls (lv_sub hl [1, 0] rfl) hrun
  exact hL_21 mFU (0 : Int32) t _ _ hP hD hS ls (lv_sub hl [1, 0] rfl) hrun
def rX6_lesser : Room := { frames := 0, cells := 0, slots := 0, locals := 0 }
noncomputable def fX6_lesser (p0 : Int32) (p1 : Int32) : Option (Int32) :=
  if p1 ≤ p0 then
    some p1
  else
    some p0
theorem kX6_lesser {R : Room} {s : State} {args : Array Value} {own : String} {idx mc ms : Nat} {rm : Room} (hts : ∀ w ∈ lw_all, w.before args s = true) (hl : Cond.methodLink own idx yX6_lesser ∈ lw_all) (hrc : rm.cells = mc) (hrs : rm.slots = ms) (hR : rm.frames + 1 ≤ R.frames ∧ 8 + (2 + 11) + rm.locals ≤ R.locals) : CallB R s args own idx yX6_lesser cX6_lesser 2 (some .int) (ws_ yX6_lesser cX6_lesser 2 (some .int)) rm mc ms 2 ∧ (Cond.static yX6_lesser).before args s = true :=
  va_cwS 2 hts (lw_S hl q2246 q115 q2247) rfl hrc hrs (by decide +kernel) hR
set_option maxHeartbeats 4000000 in
set_option maxRecDepth 100000 in
theorem mtX6_lesser (l : Launch) (D : va_G) (Z : zZ) {tys : List (ClassId × FieldType)} (hOK : zOK D zCl tys Z) (p0 : Int32) (p1 : Int32) (r : Int32) (hrun : fX6_lesser p0 p1 = some r) :
    CtR l yX6_lesser cX6_lesser 2 (some .int) rX6_lesser Z D zCl [] [.int p0, .int p1] (some (.int r)) := by
  refine CtR.of (by decide) (Nat.le_of_ble_eq_true rfl) ?_
  intro p e s m args below meth c hE hP hz ls hl
  obtain ⟨hx, hb, hr, hml, hown, hts, hlocks, hname⟩ := hE
  have hown : s.vm.findClass RX6 = some m.cls := hown
  have hK := hOK.1 _ _ _ hz
  have hl : lv_has ls 2 [(0, .int p0), (1, .int p1)] := hl
  unfold fX6_lesser at hrun
  refine lv_iload_n hx hb dX6_lesser_0 rfl (lv_at hl 0 rfl) ?_
  refine lv_iload_n hx hb dX6_lesser_1 rfl (lv_at hl 1 rfl) ?_
  refine lv_icmp_ge (tgt := 9) hx hb dX6_lesser_2 (by decide) (fun c_1 => ?_) (fun c_1 => ?_)
  · have hrun := mif_p c_1 hrun
    refine lv_iload_n hx hb dX6_lesser_9 rfl (lv_at hl 1 rfl) ?_
    cases hrun
    exact retR_i hx hb hr hlocks rfl dX6_lesser_10
  have hrun := mif_n c_1 hrun
  refine lv_iload_n hx hb dX6_lesser_5 rfl (lv_at hl 0 rfl) ?_
  refine lv_goto (tgt := 10) hx hb dX6_lesser_6 (by decide) ?_
  cases hrun
  exact retR_i hx hb hr hlocks rfl dX6_lesser_10
def rX6_greater : Room := { frames := 0, cells := 0, slots := 0, locals := 0 }
noncomputable def fX6_greater (p0 : Int32) (p1 : Int32) : Option (Int32) :=
  if p0 ≤ p1 then
    some p1
  else
    some p0
theorem kX6_greater {R : Room} {s : State} {args : Array Value} {own : String} {idx mc ms : Nat} {rm : Room} (hts : ∀ w ∈ lw_all, w.before args s = true) (hl : Cond.methodLink own idx yX6_greater ∈ lw_all) (hrc : rm.cells = mc) (hrs : rm.slots = ms) (hR : rm.frames + 1 ≤ R.frames ∧ 8 + (2 + 11) + rm.locals ≤ R.locals) : CallB R s args own idx yX6_greater cX6_greater 2 (some .int) (ws_ yX6_greater cX6_greater 2 (some .int)) rm mc ms 2 ∧ (Cond.static yX6_greater).before args s = true :=
  va_cwS 2 hts (lw_S hl q2261 q115 q2262) rfl hrc hrs (by decide +kernel) hR
set_option maxHeartbeats 4000000 in
set_option maxRecDepth 100000 in
theorem mtX6_greater (l : Launch) (D : va_G) (Z : zZ) {tys : List (ClassId × FieldType)} (hOK : zOK D zCl tys Z) (p0 : Int32) (p1 : Int32) (r : Int32) (hrun : fX6_greater p0 p1 = some r) :
    CtR l yX6_greater cX6_greater 2 (some .int) rX6_greater Z D zCl [] [.int p0, .int p1] (some (.int r)) := by
  refine CtR.of (by decide) (Nat.le_of_ble_eq_true rfl) ?_
  intro p e s m args below meth c hE hP hz ls hl
  obtain ⟨hx, hb, hr, hml, hown, hts, hlocks, hname⟩ := hE
  have hown : s.vm.findClass RX6 = some m.cls := hown
  have hK := hOK.1 _ _ _ hz
  have hl : lv_has ls 2 [(0, .int p0), (1, .int p1)] := hl
  unfold fX6_greater at hrun
  refine lv_iload_n hx hb dX6_greater_0 rfl (lv_at hl 0 rfl) ?_
  refine lv_iload_n hx hb dX6_greater_1 rfl (lv_at hl 1 rfl) ?_
  refine lv_icmp_le (tgt := 9) hx hb dX6_greater_2 (by decide) (fun c_1 => ?_) (fun c_1 => ?_)
  · have hrun := mif_p c_1 hrun
    refine lv_iload_n hx hb dX6_greater_9 rfl (lv_at hl 1 rfl) ?_
    cases hrun
    exact retR_i hx hb hr hlocks rfl dX6_greater_10
  have hrun := mif_n c_1 hrun
  refine lv_iload_n hx hb dX6_greater_5 rfl (lv_at hl 0 rfl) ?_
  refine lv_goto (tgt := 10) hx hb dX6_greater_6 (by decide) ?_
  cases hrun
  exact retR_i hx hb hr hlocks rfl dX6_greater_10
def rX6_draw : Room := { frames := 0, cells := 0, slots := 0, locals := 0 }
noncomputable def fX6_draw (t : Tw) (p1 : Int32) : Option (Int32 × Tw) :=
  mlt (tw_s_m t (upd (tw_m t) 15 (((1103515245 : Int32) * ((tw_m t) 15)) + (12345 : Int32)))) fun t_1 =>
  mnz p1 <|
  some ((mrm ((mus ((tw_m t_1) 15) (16 : Int32)) &&& (32767 : Int32)) p1), t_1)
theorem kX6_draw {R : Room} {s : State} {args : Array Value} {own : String} {idx mc ms : Nat} {rm : Room} (hts : ∀ w ∈ lw_all, w.before args s = true) (hl : Cond.methodLink own idx yX6_draw ∈ lw_all) (hrc : rm.cells = mc) (hrs : rm.slots = ms) (hR : rm.frames + 1 ≤ R.frames ∧ 8 + (2 + 11) + rm.locals ≤ R.locals) : CallW R s args own RX6 idx yX6_draw cX6_draw 2 (some .int) (ws_ yX6_draw cX6_draw 2 (some .int)) rm mc ms 1 :=
  cwV 1 hts (lw_V hl q2265 qs89 q115 q2266) rfl hrc hrs (by decide +kernel) hR
set_option maxHeartbeats 4000000 in
set_option maxRecDepth 100000 in
theorem mtX6_draw (l : Launch) (D : va_G) (k : Nat → ClassId) (a : Nat → Nat) (Z : zZ) (hOK : zOK D zCl (zTys k) Z) (t : Tw) (p1 : Int32) (r : Int32) (tt : Tw) (hrun : fX6_draw t p1 = some (r, tt)) :
    CtW l yX6_draw cX6_draw 2 (some .int) rX6_draw Z D zCl (cT k a t) [.ref (a 0), .int p1] (fun r' w' => r' = (some (.int r)) ∧ w' = cT k a tt) 0 0 := by
  refine CtW.of (by decide) (Nat.le_of_ble_eq_true rfl) ?_
  intro p e s m args below meth c A hE hA hP hD hS hz ls hl
  obtain ⟨hx, hb, hr, hml, hown, hts, hlocks, hname⟩ := hE
  have hown : s.vm.findClass RX6 = some m.cls := hown
  have hK := hOK.1 _ _ _ hz
  have hl : lv_has ls 2 [(0, .ref (a 0)), (1, .int p1)] := hl
  unfold fX6_draw at hrun
  refine lv_aload_n hx hb dX6_draw_0 rfl (lv_at hl 0 rfl) ?_
  refine va_get (ci := 0) (v := .ref (a 1)) (C := RX6) (T := TX6) (N := 22) hx hb hts in_X6 hown hK hP 0 rfl rfl 1 (by decide) (hts _ q1903) (fun _ h9 => h9) rfl dX6_draw_1 ?_
  refine lv_bipush (v := (15 : Int32)) hx hb dX6_draw_4 (by decide) ?_
  refine lv_ldc (v := (1103515245 : Int32)) hx hb hown (hts _ q2267) dX6_draw_6 ?_
  refine lv_aload_n hx hb dX6_draw_8 rfl (lv_at hl 0 rfl) ?_
  refine va_get (ci := 0) (v := .ref (a 1)) (C := RX6) (T := TX6) (N := 22) hx hb hts in_X6 hown hK hP 0 rfl rfl 1 (by decide) (hts _ q1903) (fun _ h9 => h9) rfl dX6_draw_9 ?_
  refine lv_bipush (v := (15 : Int32)) hx hb dX6_draw_12 (by decide) ?_
  refine va_ialdk (k := 15) hx hb hK hP 1 0 rfl rfl rfl (show ¬ _ from by decide) dX6_draw_14 ?_
  refine lv_imul hx hb dX6_draw_15 ?_
  refine lv_sipush (v := (12345 : Int32)) hx hb dX6_draw_16 (by decide) ?_
  refine lv_iadd hx hb dX6_draw_19 ?_
  refine va_iastk (k := 15) hx hb hK hP hD hS 1 0 rfl rfl rfl (show ¬ _ from by decide) dX6_draw_20 (fun H locs hP hD hS => ?_)
  have hP : va_P D zCl (cT k a (tw_s_m t (upd (tw_m t) 15 (((1103515245 : Int32) * ((tw_m t) 15)) + (12345 : Int32))))) H := hP
  have hD : va_D A (cT k a (tw_s_m t (upd (tw_m t) 15 (((1103515245 : Int32) * ((tw_m t) 15)) + (12345 : Int32))))) := hD
  obtain ⟨t_1, et_1⟩ : ∃ z : Tw, z = (tw_s_m t (upd (tw_m t) 15 (((1103515245 : Int32) * ((tw_m t) 15)) + (12345 : Int32)))) := ⟨_, rfl⟩
  rw [← et_1] at hP hD
  have hrun := mlt_s hrun t_1 et_1
  refine lv_aload_n hx hb dX6_draw_21 rfl (lv_at hl 0 rfl) ?_
  refine va_get (ci := 0) (v := .ref (a 1)) (C := RX6) (T := TX6) (N := 22) hx hb hts in_X6 hown hK hP 0 rfl rfl 1 (by decide) (hts _ q1903) (fun _ h9 => h9) rfl dX6_draw_22 ?_
  refine lv_bipush (v := (15 : Int32)) hx hb dX6_draw_25 (by decide) ?_
  refine va_ialdk (k := 15) hx hb hK hP 1 0 rfl rfl rfl (show ¬ _ from by decide) dX6_draw_27 ?_
  refine lv_bipush (v := (16 : Int32)) hx hb dX6_draw_28 (by decide) ?_
  refine lv_iushr (v := (mus ((tw_m t_1) 15) (16 : Int32))) hx hb dX6_draw_30 rfl ?_
  refine lv_sipush (v := (32767 : Int32)) hx hb dX6_draw_31 (by decide) ?_
  refine lv_iand hx hb dX6_draw_34 ?_
  refine lv_iload_n hx hb dX6_draw_35 rfl (lv_at hl 1 rfl) ?_
  obtain ⟨hn_2, hrun⟩ := mnz_s rfl hrun
  refine lv_irem hx hb dX6_draw_36 hn_2 ?_
  cases hrun
  exact retW_i hx hb hr hlocks hP hD hS ⟨rfl, rfl⟩ dX6_draw_37
def rX6_looks : Room := { frames := 1, cells := 0, slots := 0, locals := 23 }
noncomputable def fX6_looks_L4 (K_3 : Tw → Option (Tw)) : Nat → Int32 → Tw → Option (Tw)
  | 0, _, _ => none
  | n + 1, x2_17, t_18 =>
    if x2_17 < (4 : Int32) then
      K_3 t_18
    else
      mck (((64 : Int32) + x2_17) - (4 : Int32)) 704 <|
      mck ((64 : Int32) + x2_17) 704 <|
      mlt (tw_s_m t_18 (upd (tw_m t_18) (Int32.toNatClampNeg ((64 : Int32) + x2_17)) ((tw_m t_18) (Int32.toNatClampNeg (((64 : Int32) + x2_17) - (4 : Int32)))))) fun t_22 =>
      fX6_looks_L4 K_3 n (x2_17 + (-1 : Int32)) t_22
noncomputable def fX6_looks (t : Tw) (p1 : Int32) : Option (Tw) :=
  mjn (fun (t_2 : Tw) =>
  mlt (tw_s_m t_2 (upd (tw_m t_2) 64 ((tw_m t_2) 10))) fun t_4 =>
  mlt (tw_s_m t_4 (upd (tw_m t_4) 65 p1)) fun t_5 =>
  mob (fX6_of t_5 p1 (0 : Int32)) fun r_7 =>
  mlt (tw_s_m t_5 (upd (tw_m t_5) 66 r_7)) fun t_8 =>
  mlt (tw_s_m t_8 (upd (tw_m t_8) 67 ((tw_m t_8) 4))) fun t_9 =>
  mob (fX6_lesser (60 : Int32) (((tw_m t_9) 14) + (1 : Int32))) fun r_11 =>
  mlt (tw_s_m t_9 (upd (tw_m t_9) 14 r_11)) fun t_12 =>
  mlt (tw_s_m t_12 (upd (tw_m t_12) 11 (((tw_m t_12) 11) + (1 : Int32)))) fun t_13 =>
  mob (fX6_put t_13 p1 (2 : Int32) (99 : Int32)) fun t_15 =>
  some t_15) fun K_3 =>
  fX6_looks_L4 K_3 mFU (239 : Int32) t
theorem kX6_looks {R : Room} {s : State} {args : Array Value} {own : String} {idx mc ms : Nat} {rm : Room} (hts : ∀ w ∈ lw_all, w.before args s = true) (hl : Cond.methodLink own idx yX6_looks ∈ lw_all) (hrc : rm.cells = mc) (hrs : rm.slots = ms) (hR : rm.frames + 1 ≤ R.frames ∧ 8 + (3 + 11) + rm.locals ≤ R.locals) : CallW R s args own RX6 idx yX6_looks cX6_looks 3 none (ws_ yX6_looks cX6_looks 3 none) rm mc ms 1 :=
  cwV 1 hts (lw_V hl q2270 qs90 q115 q2271) rfl hrc hrs (by decide +kernel) hR
set_option maxHeartbeats 4000000 in
set_option maxRecDepth 100000 in
theorem mtX6_looks (l : Launch) (D : va_G) (k : Nat → ClassId) (a : Nat → Nat) (Z : zZ) (hOK : zOK D zCl (zTys k) Z) (t : Tw) (p1 : Int32) (tt : Tw) (hrun : fX6_looks t p1 = some tt) :
    CtW l yX6_looks cX6_looks 3 none rX6_looks Z D zCl (cT k a t) [.ref (a 0), .int p1] (fun r' w' => r' = none ∧ w' = cT k a tt) 0 0 := by
  refine CtW.of (by decide) (Nat.le_of_ble_eq_true rfl) ?_
  intro p e s m args below meth c A hE hA hP hD hS hz ls hl
  obtain ⟨hx, hb, hr, hml, hown, hts, hlocks, hname⟩ := hE
  have hown : s.vm.findClass RX6 = some m.cls := hown
  have hK := hOK.1 _ _ _ hz
  have hl : lv_has ls 3 [(0, .ref (a 0)), (1, .int p1)] := hl
  unfold fX6_looks at hrun
  refine lv_sipush (v := (239 : Int32)) hx hb dX6_looks_0 (by decide) ?_
  refine lv_istore_n (lv' := [(2, .int (239 : Int32)), (0, .ref (a 0)), (1, .int p1)]) hx hb dX6_looks_3 rfl hl (by decide) rfl (fun ls hl => ?_)
  obtain ⟨K_3, hK_3, hrun⟩ := mjn_s hrun
  have hj_1 : ∀ (t_2 : Tw), ∀ (H : Heap) (locs : List Loc), va_P D zCl (cT k a t_2) H → va_D A (cT k a t_2) → va_S A s.heap H locs → ∀ ls : Array Slot, lv_has ls 3 [(0, .ref (a 0)), (1, .int p1)] → K_3 t_2 = some tt → W p l e rX6_looks s m args below meth c H locs 0 0 (MQ below (QWr (fun r' w' => r' = none ∧ w' = cT k a tt) D zCl A) args s 0 0 A) (F0 m 35 ls []) := by
    intro t_2 H locs hP hD hS ls hl hrun
    rw [hK_3] at hrun
    refine lv_aload_n hx hb dX6_looks_35 rfl (lv_at hl 0 rfl) ?_
    refine va_get (ci := 0) (v := .ref (a 1)) (C := RX6) (T := TX6) (N := 22) hx hb hts in_X6 hown hK hP 0 rfl rfl 1 (by decide) (hts _ q1903) (fun _ h9 => h9) rfl dX6_looks_36 ?_
    refine lv_bipush (v := (64 : Int32)) hx hb dX6_looks_39 (by decide) ?_
    refine lv_aload_n hx hb dX6_looks_41 rfl (lv_at hl 0 rfl) ?_
    refine va_get (ci := 0) (v := .ref (a 1)) (C := RX6) (T := TX6) (N := 22) hx hb hts in_X6 hown hK hP 0 rfl rfl 1 (by decide) (hts _ q1903) (fun _ h9 => h9) rfl dX6_looks_42 ?_
    refine lv_bipush (v := (10 : Int32)) hx hb dX6_looks_45 (by decide) ?_
    refine va_ialdk (k := 10) hx hb hK hP 1 0 rfl rfl rfl (show ¬ _ from by decide) dX6_looks_47 ?_
    refine va_iastk (k := 64) hx hb hK hP hD hS 1 0 rfl rfl rfl (show ¬ _ from by decide) dX6_looks_48 (fun H locs hP hD hS => ?_)
    have hP : va_P D zCl (cT k a (tw_s_m t_2 (upd (tw_m t_2) 64 ((tw_m t_2) 10)))) H := hP
    have hD : va_D A (cT k a (tw_s_m t_2 (upd (tw_m t_2) 64 ((tw_m t_2) 10)))) := hD
    obtain ⟨t_4, et_4⟩ : ∃ z : Tw, z = (tw_s_m t_2 (upd (tw_m t_2) 64 ((tw_m t_2) 10))) := ⟨_, rfl⟩
    rw [← et_4] at hP hD
    have hrun := mlt_s hrun t_4 et_4
    refine lv_aload_n hx hb dX6_looks_49 rfl (lv_at hl 0 rfl) ?_
    refine va_get (ci := 0) (v := .ref (a 1)) (C := RX6) (T := TX6) (N := 22) hx hb hts in_X6 hown hK hP 0 rfl rfl 1 (by decide) (hts _ q1903) (fun _ h9 => h9) rfl dX6_looks_50 ?_
    refine lv_bipush (v := (65 : Int32)) hx hb dX6_looks_53 (by decide) ?_
    refine lv_iload_n hx hb dX6_looks_55 rfl (lv_at hl 1 rfl) ?_
    refine va_iastk (k := 65) hx hb hK hP hD hS 1 0 rfl rfl rfl (show ¬ _ from by decide) dX6_looks_56 (fun H locs hP hD hS => ?_)
    have hP : va_P D zCl (cT k a (tw_s_m t_4 (upd (tw_m t_4) 65 p1))) H := hP
    have hD : va_D A (cT k a (tw_s_m t_4 (upd (tw_m t_4) 65 p1))) := hD
    obtain ⟨t_5, et_5⟩ : ∃ z : Tw, z = (tw_s_m t_4 (upd (tw_m t_4) 65 p1)) := ⟨_, rfl⟩
    rw [← et_5] at hP hD
    have hrun := mlt_s hrun t_5 et_5
    refine lv_aload_n hx hb dX6_looks_57 rfl (lv_at hl 0 rfl) ?_
    refine va_get (ci := 0) (v := .ref (a 1)) (C := RX6) (T := TX6) (N := 22) hx hb hts in_X6 hown hK hP 0 rfl rfl 1 (by decide) (hts _ q1903) (fun _ h9 => h9) rfl dX6_looks_58 ?_
    refine lv_bipush (v := (66 : Int32)) hx hb dX6_looks_61 (by decide) ?_
    refine lv_aload_n hx hb dX6_looks_63 rfl (lv_at hl 0 rfl) ?_
    refine lv_iload_n hx hb dX6_looks_64 rfl (lv_at hl 1 rfl) ?_
    refine lv_iconst (v := (0 : Int32)) hx hb dX6_looks_65 (by decide) ?_
    obtain ⟨r_7, hc_6, hrun⟩ := mob_s rfl hrun
    refine cRV (As := [.int p1, .int (0 : Int32)]) (ci := 0) ⟨hx, hb, hml, hown, hts⟩ hOK hz hS hP (mtX6_of l D k a Z hOK _ _ _ _ hc_6) (kX6_of hts q2136 rfl rfl ⟨Nat.le_of_ble_eq_true rfl, Nat.le_of_ble_eq_true rfl⟩) 0 rfl rfl rfl hl.1 rfl (lv_room (Nat.le_of_ble_eq_true rfl)) ⟨Nat.le_of_ble_eq_true rfl, Nat.le_of_ble_eq_true rfl⟩ dX6_looks_66 ?_
    refine va_iastk (k := 66) hx hb hK hP hD hS 1 0 rfl rfl rfl (show ¬ _ from by decide) dX6_looks_69 (fun H locs hP hD hS => ?_)
    have hP : va_P D zCl (cT k a (tw_s_m t_5 (upd (tw_m t_5) 66 r_7))) H := hP
    have hD : va_D A (cT k a (tw_s_m t_5 (upd (tw_m t_5) 66 r_7))) := hD
    obtain ⟨t_8, et_8⟩ : ∃ z : Tw, z = (tw_s_m t_5 (upd (tw_m t_5) 66 r_7)) := ⟨_, rfl⟩
    rw [← et_8] at hP hD
    have hrun := mlt_s hrun t_8 et_8
    refine lv_aload_n hx hb dX6_looks_70 rfl (lv_at hl 0 rfl) ?_
    refine va_get (ci := 0) (v := .ref (a 1)) (C := RX6) (T := TX6) (N := 22) hx hb hts in_X6 hown hK hP 0 rfl rfl 1 (by decide) (hts _ q1903) (fun _ h9 => h9) rfl dX6_looks_71 ?_
    refine lv_bipush (v := (67 : Int32)) hx hb dX6_looks_74 (by decide) ?_
    refine lv_aload_n hx hb dX6_looks_76 rfl (lv_at hl 0 rfl) ?_
    refine va_get (ci := 0) (v := .ref (a 1)) (C := RX6) (T := TX6) (N := 22) hx hb hts in_X6 hown hK hP 0 rfl rfl 1 (by decide) (hts _ q1903) (fun _ h9 => h9) rfl dX6_looks_77 ?_
    refine lv_iconst (v := (4 : Int32)) hx hb dX6_looks_80 (by decide) ?_
    refine va_ialdk (k := 4) hx hb hK hP 1 0 rfl rfl rfl (show ¬ _ from by decide) dX6_looks_81 ?_
    refine va_iastk (k := 67) hx hb hK hP hD hS 1 0 rfl rfl rfl (show ¬ _ from by decide) dX6_looks_82 (fun H locs hP hD hS => ?_)
    have hP : va_P D zCl (cT k a (tw_s_m t_8 (upd (tw_m t_8) 67 ((tw_m t_8) 4)))) H := hP
    have hD : va_D A (cT k a (tw_s_m t_8 (upd (tw_m t_8) 67 ((tw_m t_8) 4)))) := hD
    obtain ⟨t_9, et_9⟩ : ∃ z : Tw, z = (tw_s_m t_8 (upd (tw_m t_8) 67 ((tw_m t_8) 4))) := ⟨_, rfl⟩
    rw [← et_9] at hP hD
    have hrun := mlt_s hrun t_9 et_9
    refine lv_aload_n hx hb dX6_looks_83 rfl (lv_at hl 0 rfl) ?_
    refine va_get (ci := 0) (v := .ref (a 1)) (C := RX6) (T := TX6) (N := 22) hx hb hts in_X6 hown hK hP 0 rfl rfl 1 (by decide) (hts _ q1903) (fun _ h9 => h9) rfl dX6_looks_84 ?_
    refine lv_bipush (v := (14 : Int32)) hx hb dX6_looks_87 (by decide) ?_
    refine lv_bipush (v := (60 : Int32)) hx hb dX6_looks_89 (by decide) ?_
    refine lv_aload_n hx hb dX6_looks_91 rfl (lv_at hl 0 rfl) ?_
    refine va_get (ci := 0) (v := .ref (a 1)) (C := RX6) (T := TX6) (N := 22) hx hb hts in_X6 hown hK hP 0 rfl rfl 1 (by decide) (hts _ q1903) (fun _ h9 => h9) rfl dX6_looks_92 ?_
    refine lv_bipush (v := (14 : Int32)) hx hb dX6_looks_95 (by decide) ?_
    refine va_ialdk (k := 14) hx hb hK hP 1 0 rfl rfl rfl (show ¬ _ from by decide) dX6_looks_97 ?_
    refine lv_iconst (v := (1 : Int32)) hx hb dX6_looks_98 (by decide) ?_
    refine lv_iadd hx hb dX6_looks_99 ?_
    obtain ⟨r_11, hc_10, hrun⟩ := mob_s rfl hrun
    refine cRS (ws := []) (As := [.int (60 : Int32), .int (((tw_m t_9) 14) + (1 : Int32))]) ⟨hx, hb, hml, hown, hts⟩ hOK hz hS zP0 (mtX6_lesser l D Z hOK _ _ _ hc_10) (kX6_lesser hts q2245 rfl rfl ⟨Nat.le_of_ble_eq_true rfl, Nat.le_of_ble_eq_true rfl⟩) rfl hl.1 rfl (lv_room (Nat.le_of_ble_eq_true rfl)) ⟨Nat.le_of_ble_eq_true rfl, Nat.le_of_ble_eq_true rfl⟩ dX6_looks_100 ?_
    refine va_iastk (k := 14) hx hb hK hP hD hS 1 0 rfl rfl rfl (show ¬ _ from by decide) dX6_looks_103 (fun H locs hP hD hS => ?_)
    have hP : va_P D zCl (cT k a (tw_s_m t_9 (upd (tw_m t_9) 14 r_11))) H := hP
    have hD : va_D A (cT k a (tw_s_m t_9 (upd (tw_m t_9) 14 r_11))) := hD
    obtain ⟨t_12, et_12⟩ : ∃ z : Tw, z = (tw_s_m t_9 (upd (tw_m t_9) 14 r_11)) := ⟨_, rfl⟩
    rw [← et_12] at hP hD
    have hrun := mlt_s hrun t_12 et_12
    refine lv_aload_n hx hb dX6_looks_104 rfl (lv_at hl 0 rfl) ?_
    refine va_get (ci := 0) (v := .ref (a 1)) (C := RX6) (T := TX6) (N := 22) hx hb hts in_X6 hown hK hP 0 rfl rfl 1 (by decide) (hts _ q1903) (fun _ h9 => h9) rfl dX6_looks_105 ?_
    refine lv_bipush (v := (11 : Int32)) hx hb dX6_looks_108 (by decide) ?_
    refine lv_dup2_11 hx hb dX6_looks_110 rfl rfl ?_
    refine va_ialdk (k := 11) hx hb hK hP 1 0 rfl rfl rfl (show ¬ _ from by decide) dX6_looks_111 ?_
    refine lv_iconst (v := (1 : Int32)) hx hb dX6_looks_112 (by decide) ?_
    refine lv_iadd hx hb dX6_looks_113 ?_
    refine va_iastk (k := 11) hx hb hK hP hD hS 1 0 rfl rfl rfl (show ¬ _ from by decide) dX6_looks_114 (fun H locs hP hD hS => ?_)
    have hP : va_P D zCl (cT k a (tw_s_m t_12 (upd (tw_m t_12) 11 (((tw_m t_12) 11) + (1 : Int32))))) H := hP
    have hD : va_D A (cT k a (tw_s_m t_12 (upd (tw_m t_12) 11 (((tw_m t_12) 11) + (1 : Int32))))) := hD
    obtain ⟨t_13, et_13⟩ : ∃ z : Tw, z = (tw_s_m t_12 (upd (tw_m t_12) 11 (((tw_m t_12) 11) + (1 : Int32)))) := ⟨_, rfl⟩
    rw [← et_13] at hP hD
    have hrun := mlt_s hrun t_13 et_13
    refine lv_aload_n hx hb dX6_looks_115 rfl (lv_at hl 0 rfl) ?_
    refine lv_iload_n hx hb dX6_looks_116 rfl (lv_at hl 1 rfl) ?_
    refine lv_iconst (v := (2 : Int32)) hx hb dX6_looks_117 (by decide) ?_
    refine lv_bipush (v := (99 : Int32)) hx hb dX6_looks_118 (by decide) ?_
    obtain ⟨t_15, hc_14, hrun⟩ := mob_s rfl hrun
    refine cWV00 (As := [.int p1, .int (2 : Int32), .int (99 : Int32)]) (ci := 0) ⟨hx, hb, hml, hown, hts⟩ hOK hz hS hA hP hD (mtX6_put l D k a Z hOK _ _ _ _ _ hc_14) (kX6_put hts q2096 rfl rfl ⟨Nat.le_of_ble_eq_true rfl, Nat.le_of_ble_eq_true rfl⟩) 0 rfl rfl rfl hl.1 rfl (lv_room (Nat.le_of_ble_eq_true rfl)) ⟨Nat.le_of_ble_eq_true rfl, Nat.le_of_ble_eq_true rfl⟩ dX6_looks_120 (fun r_ w_ H locs hq hP hD hS => ?_)
    obtain ⟨rfl, rfl⟩ := hq
    cases hrun
    exact retW_v hx hb hr hlocks hP hD hS ⟨rfl, rfl⟩ dX6_looks_123
  have hL_16 : ∀ n : Nat, ∀ (x2_17 : Int32) (t_18 : Tw), ∀ (H : Heap) (locs : List Loc), va_P D zCl (cT k a t_18) H → va_D A (cT k a t_18) → va_S A s.heap H locs → ∀ ls : Array Slot, lv_has ls 3 [(0, .ref (a 0)), (1, .int p1), (2, .int x2_17)] → fX6_looks_L4 K_3 n x2_17 t_18 = some tt → W p l e rX6_looks s m args below meth c H locs 0 0 (MQ below (QWr (fun r' w' => r' = none ∧ w' = cT k a tt) D zCl A) args s 0 0 A) (F0 m 4 ls []) := by
    intro n
    induction n with
    | zero =>
      intro x2_17 t_18 H locs hP hD hS ls hl hrun
      exact nomatch hrun
    | succ n ih =>
      intro x2_17 t_18 H locs hP hD hS ls hl hrun
      rw [fX6_looks_L4.eq_2] at hrun
      refine lv_iload_n hx hb dX6_looks_4 rfl (lv_at hl 2 rfl) ?_
      refine lv_iconst (v := (4 : Int32)) hx hb dX6_looks_5 (by decide) ?_
      refine lv_icmp_lt (tgt := 35) hx hb dX6_looks_6 (by decide) (fun c_19 => ?_) (fun c_19 => ?_)
      · have hrun := mif_p c_19 hrun
        exact hj_1 t_18 _ _ hP hD hS ls (lv_sub hl [0, 1] rfl) hrun
      have hrun := mif_n c_19 hrun
      refine lv_aload_n hx hb dX6_looks_9 rfl (lv_at hl 0 rfl) ?_
      refine va_get (ci := 0) (v := .ref (a 1)) (C := RX6) (T := TX6) (N := 22) hx hb hts in_X6 hown hK hP 0 rfl rfl 1 (by decide) (hts _ q1903) (fun _ h9 => h9) rfl dX6_looks_10 ?_
      refine lv_bipush (v := (64 : Int32)) hx hb dX6_looks_13 (by decide) ?_
      refine lv_iload_n hx hb dX6_looks_15 rfl (lv_at hl 2 rfl) ?_
      refine lv_iadd hx hb dX6_looks_16 ?_
      refine lv_aload_n hx hb dX6_looks_17 rfl (lv_at hl 0 rfl) ?_
      refine va_get (ci := 0) (v := .ref (a 1)) (C := RX6) (T := TX6) (N := 22) hx hb hts in_X6 hown hK hP 0 rfl rfl 1 (by decide) (hts _ q1903) (fun _ h9 => h9) rfl dX6_looks_18 ?_
      refine lv_bipush (v := (64 : Int32)) hx hb dX6_looks_21 (by decide) ?_
      refine lv_iload_n hx hb dX6_looks_23 rfl (lv_at hl 2 rfl) ?_
      refine lv_iadd hx hb dX6_looks_24 ?_
      refine lv_iconst (v := (4 : Int32)) hx hb dX6_looks_25 (by decide) ?_
      refine lv_isub hx hb dX6_looks_26 ?_
      obtain ⟨hb_20, hrun⟩ := mck_s rfl hrun
      refine va_iald hx hb hK hP 1 0 rfl rfl hb_20 dX6_looks_27 ?_
      obtain ⟨hb_21, hrun⟩ := mck_s rfl hrun
      refine va_iast hx hb hK hP hD hS 1 0 rfl rfl hb_21 dX6_looks_28 (fun H locs hP hD hS => ?_)
      have hP : va_P D zCl (cT k a (tw_s_m t_18 (upd (tw_m t_18) (Int32.toNatClampNeg ((64 : Int32) + x2_17)) ((tw_m t_18) (Int32.toNatClampNeg (((64 : Int32) + x2_17) - (4 : Int32))))))) H := hP
      have hD : va_D A (cT k a (tw_s_m t_18 (upd (tw_m t_18) (Int32.toNatClampNeg ((64 : Int32) + x2_17)) ((tw_m t_18) (Int32.toNatClampNeg (((64 : Int32) + x2_17) - (4 : Int32))))))) := hD
      obtain ⟨t_22, et_22⟩ : ∃ z : Tw, z = (tw_s_m t_18 (upd (tw_m t_18) (Int32.toNatClampNeg ((64 : Int32) + x2_17)) ((tw_m t_18) (Int32.toNatClampNeg (((64 : Int32) + x2_17) - (4 : Int32)))))) := ⟨_, rfl⟩
      rw [← et_22] at hP hD
      have hrun := mlt_s hrun t_22 et_22
      refine lv_iinc (v := (x2_17 + (-1 : Int32))) (lv' := [(2, .int (x2_17 + (-1 : Int32))), (0, .ref (a 0)), (1, .int p1)]) hx hb dX6_looks_29 hl (k := 2) rfl rfl (by decide) rfl (fun ls hl => ?_)
      refine lv_goto (tgt := 4) hx hb dX6_looks_32 (by decide) ?_
      exact ih (x2_17 + (-1 : Int32)) t_22 _ _ hP hD hS ls (lv_sub hl [1, 2, 0] rfl) hrun
  exact hL_16 mFU (239 : Int32) t _ _ hP hD hS ls (lv_sub hl [1, 2, 0] rfl) hrun
def rX6_builds : Room := { frames := 1, cells := 0, slots := 0, locals := 21 }
noncomputable def fX6_builds (t : Tw) : Option (Tw) :=
  mob (fX6_lesser ((tw_m t) 6) ((tw_m t) 7)) fun r_2 =>
  mob (fX6_lesser (9999 : Int32) (((tw_m t) 8) + r_2)) fun r_4 =>
  mlt (tw_s_m t (upd (tw_m t) 8 r_4)) fun t_5 =>
  mlt (tw_s_m t_5 (upd (tw_m t_5) 7 (((tw_m t_5) 7) - r_2))) fun t_6 =>
  some t_6
theorem kX6_builds {R : Room} {s : State} {args : Array Value} {own : String} {idx mc ms : Nat} {rm : Room} (hts : ∀ w ∈ lw_all, w.before args s = true) (hl : Cond.methodLink own idx yX6_builds ∈ lw_all) (hrc : rm.cells = mc) (hrs : rm.slots = ms) (hR : rm.frames + 1 ≤ R.frames ∧ 8 + (2 + 11) + rm.locals ≤ R.locals) : CallW R s args own RX6 idx yX6_builds cX6_builds 2 none (ws_ yX6_builds cX6_builds 2 none) rm mc ms 0 :=
  cwV 0 hts (lw_V hl q2274 qs91 q115 q2275) rfl hrc hrs (by decide +kernel) hR
set_option maxHeartbeats 4000000 in
set_option maxRecDepth 100000 in
theorem mtX6_builds (l : Launch) (D : va_G) (k : Nat → ClassId) (a : Nat → Nat) (Z : zZ) (hOK : zOK D zCl (zTys k) Z) (t : Tw) (tt : Tw) (hrun : fX6_builds t = some tt) :
    CtW l yX6_builds cX6_builds 2 none rX6_builds Z D zCl (cT k a t) [.ref (a 0)] (fun r' w' => r' = none ∧ w' = cT k a tt) 0 0 := by
  refine CtW.of (by decide) (Nat.le_of_ble_eq_true rfl) ?_
  intro p e s m args below meth c A hE hA hP hD hS hz ls hl
  obtain ⟨hx, hb, hr, hml, hown, hts, hlocks, hname⟩ := hE
  have hown : s.vm.findClass RX6 = some m.cls := hown
  have hK := hOK.1 _ _ _ hz
  have hl : lv_has ls 2 [(0, .ref (a 0))] := hl
  unfold fX6_builds at hrun
  refine lv_aload_n hx hb dX6_builds_0 rfl (lv_at hl 0 rfl) ?_
  refine va_get (ci := 0) (v := .ref (a 1)) (C := RX6) (T := TX6) (N := 22) hx hb hts in_X6 hown hK hP 0 rfl rfl 1 (by decide) (hts _ q1903) (fun _ h9 => h9) rfl dX6_builds_1 ?_
  refine lv_bipush (v := (6 : Int32)) hx hb dX6_builds_4 (by decide) ?_
  refine va_ialdk (k := 6) hx hb hK hP 1 0 rfl rfl rfl (show ¬ _ from by decide) dX6_builds_6 ?_
  refine lv_aload_n hx hb dX6_builds_7 rfl (lv_at hl 0 rfl) ?_
  refine va_get (ci := 0) (v := .ref (a 1)) (C := RX6) (T := TX6) (N := 22) hx hb hts in_X6 hown hK hP 0 rfl rfl 1 (by decide) (hts _ q1903) (fun _ h9 => h9) rfl dX6_builds_8 ?_
  refine lv_bipush (v := (7 : Int32)) hx hb dX6_builds_11 (by decide) ?_
  refine va_ialdk (k := 7) hx hb hK hP 1 0 rfl rfl rfl (show ¬ _ from by decide) dX6_builds_13 ?_
  obtain ⟨r_2, hc_1, hrun⟩ := mob_s rfl hrun
  refine cRS (ws := []) (As := [.int ((tw_m t) 6), .int ((tw_m t) 7)]) ⟨hx, hb, hml, hown, hts⟩ hOK hz hS zP0 (mtX6_lesser l D Z hOK _ _ _ hc_1) (kX6_lesser hts q2245 rfl rfl ⟨Nat.le_of_ble_eq_true rfl, Nat.le_of_ble_eq_true rfl⟩) rfl hl.1 rfl (lv_room (Nat.le_of_ble_eq_true rfl)) ⟨Nat.le_of_ble_eq_true rfl, Nat.le_of_ble_eq_true rfl⟩ dX6_builds_14 ?_
  refine lv_istore_n (lv' := [(1, .int r_2), (0, .ref (a 0))]) hx hb dX6_builds_17 rfl hl (by decide) rfl (fun ls hl => ?_)
  refine lv_aload_n hx hb dX6_builds_18 rfl (lv_at hl 1 rfl) ?_
  refine va_get (ci := 0) (v := .ref (a 1)) (C := RX6) (T := TX6) (N := 22) hx hb hts in_X6 hown hK hP 0 rfl rfl 1 (by decide) (hts _ q1903) (fun _ h9 => h9) rfl dX6_builds_19 ?_
  refine lv_bipush (v := (8 : Int32)) hx hb dX6_builds_22 (by decide) ?_
  refine lv_sipush (v := (9999 : Int32)) hx hb dX6_builds_24 (by decide) ?_
  refine lv_aload_n hx hb dX6_builds_27 rfl (lv_at hl 1 rfl) ?_
  refine va_get (ci := 0) (v := .ref (a 1)) (C := RX6) (T := TX6) (N := 22) hx hb hts in_X6 hown hK hP 0 rfl rfl 1 (by decide) (hts _ q1903) (fun _ h9 => h9) rfl dX6_builds_28 ?_
  refine lv_bipush (v := (8 : Int32)) hx hb dX6_builds_31 (by decide) ?_
  refine va_ialdk (k := 8) hx hb hK hP 1 0 rfl rfl rfl (show ¬ _ from by decide) dX6_builds_33 ?_
  refine lv_iload_n hx hb dX6_builds_34 rfl (lv_at hl 0 rfl) ?_
  refine lv_iadd hx hb dX6_builds_35 ?_
  obtain ⟨r_4, hc_3, hrun⟩ := mob_s rfl hrun
  refine cRS (ws := []) (As := [.int (9999 : Int32), .int (((tw_m t) 8) + r_2)]) ⟨hx, hb, hml, hown, hts⟩ hOK hz hS zP0 (mtX6_lesser l D Z hOK _ _ _ hc_3) (kX6_lesser hts q2245 rfl rfl ⟨Nat.le_of_ble_eq_true rfl, Nat.le_of_ble_eq_true rfl⟩) rfl hl.1 rfl (lv_room (Nat.le_of_ble_eq_true rfl)) ⟨Nat.le_of_ble_eq_true rfl, Nat.le_of_ble_eq_true rfl⟩ dX6_builds_36 ?_
  refine va_iastk (k := 8) hx hb hK hP hD hS 1 0 rfl rfl rfl (show ¬ _ from by decide) dX6_builds_39 (fun H locs hP hD hS => ?_)
  have hP : va_P D zCl (cT k a (tw_s_m t (upd (tw_m t) 8 r_4))) H := hP
  have hD : va_D A (cT k a (tw_s_m t (upd (tw_m t) 8 r_4))) := hD
  obtain ⟨t_5, et_5⟩ : ∃ z : Tw, z = (tw_s_m t (upd (tw_m t) 8 r_4)) := ⟨_, rfl⟩
  rw [← et_5] at hP hD
  have hrun := mlt_s hrun t_5 et_5
  refine lv_aload_n hx hb dX6_builds_40 rfl (lv_at hl 1 rfl) ?_
  refine va_get (ci := 0) (v := .ref (a 1)) (C := RX6) (T := TX6) (N := 22) hx hb hts in_X6 hown hK hP 0 rfl rfl 1 (by decide) (hts _ q1903) (fun _ h9 => h9) rfl dX6_builds_41 ?_
  refine lv_bipush (v := (7 : Int32)) hx hb dX6_builds_44 (by decide) ?_
  refine lv_dup2_11 hx hb dX6_builds_46 rfl rfl ?_
  refine va_ialdk (k := 7) hx hb hK hP 1 0 rfl rfl rfl (show ¬ _ from by decide) dX6_builds_47 ?_
  refine lv_iload_n hx hb dX6_builds_48 rfl (lv_at hl 0 rfl) ?_
  refine lv_isub hx hb dX6_builds_49 ?_
  refine va_iastk (k := 7) hx hb hK hP hD hS 1 0 rfl rfl rfl (show ¬ _ from by decide) dX6_builds_50 (fun H locs hP hD hS => ?_)
  have hP : va_P D zCl (cT k a (tw_s_m t_5 (upd (tw_m t_5) 7 (((tw_m t_5) 7) - r_2)))) H := hP
  have hD : va_D A (cT k a (tw_s_m t_5 (upd (tw_m t_5) 7 (((tw_m t_5) 7) - r_2)))) := hD
  obtain ⟨t_6, et_6⟩ : ∃ z : Tw, z = (tw_s_m t_5 (upd (tw_m t_5) 7 (((tw_m t_5) 7) - r_2))) := ⟨_, rfl⟩
  rw [← et_6] at hP hD
  have hrun := mlt_s hrun t_6 et_6
  cases hrun
  exact retW_v hx hb hr hlocks hP hD hS ⟨rfl, rfl⟩ dX6_builds_51
def rX6_both : Room := { frames := 1, cells := 0, slots := 0, locals := 22 }
noncomputable def fX6_both_L7 (t_1 : Tw) : Nat → Int32 → Option (Int32 × Tw)
  | 0, _ => none
  | n + 1, x1_3 =>
    if (400 : Int32) < x1_3 then
      some ((-1 : Int32), t_1)
    else
      mob (fX6_isSaturday t_1 (0 : Int32) (((tw_m t_1) 10) + x1_3)) fun r_6 =>
      if r_6 = true then
        mob (fX6_isSaturday t_1 (1 : Int32) (((tw_m t_1) 10) + x1_3)) fun r_9 =>
        if r_9 = true then
          some (x1_3, t_1)
        else
          fX6_both_L7 t_1 n (x1_3 + (1 : Int32))
      else
        fX6_both_L7 t_1 n (x1_3 + (1 : Int32))
noncomputable def fX6_both (t : Tw) : Option (Int32 × Tw) :=
  mlt (tw_s_thrown t (0 : Int32)) fun t_1 =>
  fX6_both_L7 t_1 mFU (0 : Int32)
theorem kX6_both {R : Room} {s : State} {args : Array Value} {own : String} {idx mc ms : Nat} {rm : Room} (hts : ∀ w ∈ lw_all, w.before args s = true) (hl : Cond.methodLink own idx yX6_both ∈ lw_all) (hrc : rm.cells = mc) (hrs : rm.slots = ms) (hR : rm.frames + 1 ≤ R.frames ∧ 8 + (2 + 11) + rm.locals ≤ R.locals) : CallW R s args own RX6 idx yX6_both cX6_both 2 (some .int) (ws_ yX6_both cX6_both 2 (some .int)) rm mc ms 0 :=
  cwV 0 hts (lw_V hl q2281 q2282 q115 q2283) rfl hrc hrs (by decide +kernel) hR
set_option maxHeartbeats 4000000 in
set_option maxRecDepth 100000 in
theorem mtX6_both (l : Launch) (D : va_G) (k : Nat → ClassId) (a : Nat → Nat) (Z : zZ) (hOK : zOK D zCl (zTys k) Z) (t : Tw) (r : Int32) (tt : Tw) (hrun : fX6_both t = some (r, tt)) :
    CtW l yX6_both cX6_both 2 (some .int) rX6_both Z D zCl (cT k a t) [.ref (a 0)] (fun r' w' => r' = (some (.int r)) ∧ w' = cT k a tt) 0 0 := by
  refine CtW.of (by decide) (Nat.le_of_ble_eq_true rfl) ?_
  intro p e s m args below meth c A hE hA hP hD hS hz ls hl
  obtain ⟨hx, hb, hr, hml, hown, hts, hlocks, hname⟩ := hE
  have hown : s.vm.findClass RX6 = some m.cls := hown
  have hK := hOK.1 _ _ _ hz
  have hl : lv_has ls 2 [(0, .ref (a 0))] := hl
  unfold fX6_both at hrun
  refine lv_aload_n hx hb dX6_both_0 rfl (lv_at hl 0 rfl) ?_
  refine lv_iconst (v := (0 : Int32)) hx hb dX6_both_1 (by decide) ?_
  refine va_put (ci := 0) (v := .int (0 : Int32)) (ty := tyX6 0) (C := RX6) (T := TX6) (N := 22) hx hb hts in_X6 tyX6 tyX6_ok nmX6 hown hK hP hD hS 0 rfl rfl 0 (by decide) (hts _ q1902) (fun _ h9 => h9) rfl (tyX6_ok 0 (by decide)) rfl rfl (Nat.le_of_ble_eq_true rfl) dX6_both_2 (fun H locs hP hD hS => ?_)
  have hP : va_P D zCl (cT k a (tw_s_thrown t (0 : Int32))) H := hP
  have hD : va_D A (cT k a (tw_s_thrown t (0 : Int32))) := hD
  obtain ⟨t_1, et_1⟩ : ∃ z : Tw, z = (tw_s_thrown t (0 : Int32)) := ⟨_, rfl⟩
  rw [← et_1] at hP hD
  have hrun := mlt_s hrun t_1 et_1
  refine lv_iconst (v := (0 : Int32)) hx hb dX6_both_5 (by decide) ?_
  refine lv_istore_n (lv' := [(1, .int (0 : Int32)), (0, .ref (a 0))]) hx hb dX6_both_6 rfl hl (by decide) rfl (fun ls hl => ?_)
  have hL_2 : ∀ n : Nat, ∀ (x1_3 : Int32), ∀ (H : Heap) (locs : List Loc), va_P D zCl (cT k a t_1) H → va_D A (cT k a t_1) → va_S A s.heap H locs → ∀ ls : Array Slot, lv_has ls 2 [(0, .ref (a 0)), (1, .int x1_3)] → fX6_both_L7 t_1 n x1_3 = some (r, tt) → W p l e rX6_both s m args below meth c H locs 0 0 (MQ below (QWr (fun r' w' => r' = (some (.int r)) ∧ w' = cT k a tt) D zCl A) args s 0 0 A) (F0 m 7 ls []) := by
    intro n
    induction n with
    | zero =>
      intro x1_3 H locs hP hD hS ls hl hrun
      exact nomatch hrun
    | succ n ih =>
      intro x1_3 H locs hP hD hS ls hl hrun
      rw [fX6_both_L7.eq_2] at hrun
      refine lv_iload_n hx hb dX6_both_7 rfl (lv_at hl 1 rfl) ?_
      refine lv_sipush (v := (400 : Int32)) hx hb dX6_both_8 (by decide) ?_
      refine lv_icmp_gt (tgt := 56) hx hb dX6_both_11 (by decide) (fun c_4 => ?_) (fun c_4 => ?_)
      · have hrun := mif_p c_4 hrun
        refine lv_iconst (v := (-1 : Int32)) hx hb dX6_both_56 (by decide) ?_
        cases hrun
        exact retW_i hx hb hr hlocks hP hD hS ⟨rfl, rfl⟩ dX6_both_57
      have hrun := mif_n c_4 hrun
      refine lv_aload_n hx hb dX6_both_14 rfl (lv_at hl 0 rfl) ?_
      refine lv_iconst (v := (0 : Int32)) hx hb dX6_both_15 (by decide) ?_
      refine lv_aload_n hx hb dX6_both_16 rfl (lv_at hl 0 rfl) ?_
      refine va_get (ci := 0) (v := .ref (a 1)) (C := RX6) (T := TX6) (N := 22) hx hb hts in_X6 hown hK hP 0 rfl rfl 1 (by decide) (hts _ q1903) (fun _ h9 => h9) rfl dX6_both_17 ?_
      refine lv_bipush (v := (10 : Int32)) hx hb dX6_both_20 (by decide) ?_
      refine va_ialdk (k := 10) hx hb hK hP 1 0 rfl rfl rfl (show ¬ _ from by decide) dX6_both_22 ?_
      refine lv_iload_n hx hb dX6_both_23 rfl (lv_at hl 1 rfl) ?_
      refine lv_iadd hx hb dX6_both_24 ?_
      obtain ⟨r_6, hc_5, hrun⟩ := mob_s rfl hrun
      refine cRV (As := [.int (0 : Int32), .int (((tw_m t_1) 10) + x1_3)]) (ci := 0) ⟨hx, hb, hml, hown, hts⟩ hOK hz hS hP (mtX6_isSaturday l D k a Z hOK _ _ _ _ hc_5) (kX6_isSaturday hts q2151 rfl rfl ⟨Nat.le_of_ble_eq_true rfl, Nat.le_of_ble_eq_true rfl⟩) 0 rfl rfl rfl hl.1 rfl (lv_room (Nat.le_of_ble_eq_true rfl)) ⟨Nat.le_of_ble_eq_true rfl, Nat.le_of_ble_eq_true rfl⟩ dX6_both_25 ?_
      refine lv_if_eq (tgt := 50) hx hb dX6_both_28 (by decide) (fun c_7 => ?_) (fun c_7 => ?_)
      · have hrun := mif_n (bz_z c_7) hrun
        refine lv_iinc (v := (x1_3 + (1 : Int32))) (lv' := [(1, .int (x1_3 + (1 : Int32))), (0, .ref (a 0))]) hx hb dX6_both_50 hl (k := 1) rfl rfl (by decide) rfl (fun ls hl => ?_)
        refine lv_goto (tgt := 7) hx hb dX6_both_53 (by decide) ?_
        exact ih (x1_3 + (1 : Int32)) _ _ hP hD hS ls (lv_sub hl [1, 0] rfl) hrun
      have hrun := mif_p (bz_nz c_7) hrun
      refine lv_aload_n hx hb dX6_both_31 rfl (lv_at hl 0 rfl) ?_
      refine lv_iconst (v := (1 : Int32)) hx hb dX6_both_32 (by decide) ?_
      refine lv_aload_n hx hb dX6_both_33 rfl (lv_at hl 0 rfl) ?_
      refine va_get (ci := 0) (v := .ref (a 1)) (C := RX6) (T := TX6) (N := 22) hx hb hts in_X6 hown hK hP 0 rfl rfl 1 (by decide) (hts _ q1903) (fun _ h9 => h9) rfl dX6_both_34 ?_
      refine lv_bipush (v := (10 : Int32)) hx hb dX6_both_37 (by decide) ?_
      refine va_ialdk (k := 10) hx hb hK hP 1 0 rfl rfl rfl (show ¬ _ from by decide) dX6_both_39 ?_
      refine lv_iload_n hx hb dX6_both_40 rfl (lv_at hl 1 rfl) ?_
      refine lv_iadd hx hb dX6_both_41 ?_
      obtain ⟨r_9, hc_8, hrun⟩ := mob_s rfl hrun
      refine cRV (As := [.int (1 : Int32), .int (((tw_m t_1) 10) + x1_3)]) (ci := 0) ⟨hx, hb, hml, hown, hts⟩ hOK hz hS hP (mtX6_isSaturday l D k a Z hOK _ _ _ _ hc_8) (kX6_isSaturday hts q2151 rfl rfl ⟨Nat.le_of_ble_eq_true rfl, Nat.le_of_ble_eq_true rfl⟩) 0 rfl rfl rfl hl.1 rfl (lv_room (Nat.le_of_ble_eq_true rfl)) ⟨Nat.le_of_ble_eq_true rfl, Nat.le_of_ble_eq_true rfl⟩ dX6_both_42 ?_
      refine lv_if_eq (tgt := 50) hx hb dX6_both_45 (by decide) (fun c_10 => ?_) (fun c_10 => ?_)
      · have hrun := mif_n (bz_z c_10) hrun
        refine lv_iinc (v := (x1_3 + (1 : Int32))) (lv' := [(1, .int (x1_3 + (1 : Int32))), (0, .ref (a 0))]) hx hb dX6_both_50 hl (k := 1) rfl rfl (by decide) rfl (fun ls hl => ?_)
        refine lv_goto (tgt := 7) hx hb dX6_both_53 (by decide) ?_
        exact ih (x1_3 + (1 : Int32)) _ _ hP hD hS ls (lv_sub hl [1, 0] rfl) hrun
      have hrun := mif_p (bz_nz c_10) hrun
      refine lv_iload_n hx hb dX6_both_48 rfl (lv_at hl 1 rfl) ?_
      cases hrun
      exact retW_i hx hb hr hlocks hP hD hS ⟨rfl, rfl⟩ dX6_both_49
  exact hL_2 mFU (0 : Int32) _ _ hP hD hS ls (lv_sub hl [1, 0] rfl) hrun
